/-! decode rows of X8 -/
set_option maxRecDepth 100000
abbrev cX8_init : ByteArray := prog_21_method_1_code
def yX8_init : MethodName := ⟨RX8, "<init>", "()V"⟩
def dkwX8_init_6 : List UInt8 := [162, 0, 20, 42, 180, 0, 7, 17, 1, 16, 27, 96, 2, 79, 132, 1, 1, 167, 255, 236, 177]
abbrev dktX8_init_6 : List UInt8 := dkwX8_init_6 ++ []
def dkwX8_init_5 : List UInt8 := [4, 2, 79, 42, 180, 0, 7, 7, 16, 6, 79, 42, 180, 0, 7, 16, 9, 4, 79, 3, 60, 27, 16, 12]
abbrev dktX8_init_5 : List UInt8 := dkwX8_init_5 ++ dktX8_init_6
def dkwX8_init_4 : List UInt8 := [181, 0, 41, 42, 17, 40, 0, 188, 10, 181, 0, 44, 42, 16, 10, 188, 10, 181, 0, 47, 42, 180, 0, 7]
abbrev dktX8_init_4 : List UInt8 := dkwX8_init_4 ++ dktX8_init_5
def dkwX8_init_3 : List UInt8 := [42, 16, 10, 188, 10, 181, 0, 35, 42, 17, 4, 0, 188, 10, 181, 0, 38, 42, 16, 10, 188, 10]
abbrev dktX8_init_3 : List UInt8 := dkwX8_init_3 ++ dktX8_init_4
def dkwX8_init_2 : List UInt8 := [181, 0, 22, 42, 2, 181, 0, 25, 42, 16, 6, 188, 10, 181, 0, 29, 42, 16, 36, 188, 10, 181, 0, 32]
abbrev dktX8_init_2 : List UInt8 := dkwX8_init_2 ++ dktX8_init_3
def dkwX8_init_1 : List UInt8 := [17, 2, 72, 188, 10, 181, 0, 16, 42, 17, 27, 96, 188, 10, 181, 0, 19, 42, 17, 1, 144, 188, 10]
abbrev dktX8_init_1 : List UInt8 := dkwX8_init_1 ++ dktX8_init_2
def dkwX8_init_0 : List UInt8 := [42, 183, 0, 1, 42, 17, 3, 216, 188, 10, 181, 0, 7, 42, 17, 3, 216, 188, 10, 181, 0, 13, 42]
abbrev dktX8_init_0 : List UInt8 := dkwX8_init_0 ++ dktX8_init_1
theorem dksX8_init_0 : cX8_init.data.toList.drop 0 = dktX8_init_0 := by decide +kernel
theorem dksX8_init_1 : cX8_init.data.toList.drop 23 = dktX8_init_1 := dk_seg dksX8_init_0 23 rfl rfl
theorem dksX8_init_2 : cX8_init.data.toList.drop 46 = dktX8_init_2 := dk_seg dksX8_init_1 23 rfl rfl
theorem dksX8_init_3 : cX8_init.data.toList.drop 70 = dktX8_init_3 := dk_seg dksX8_init_2 24 rfl rfl
theorem dksX8_init_4 : cX8_init.data.toList.drop 92 = dktX8_init_4 := dk_seg dksX8_init_3 22 rfl rfl
theorem dksX8_init_5 : cX8_init.data.toList.drop 116 = dktX8_init_5 := dk_seg dksX8_init_4 24 rfl rfl
theorem dksX8_init_6 : cX8_init.data.toList.drop 140 = dktX8_init_6 := dk_seg dksX8_init_5 24 rfl rfl
theorem dX8_init_0 : decode cX8_init 0 = .ok (.aload_n 0, 1) := dk_42 (dk_at dksX8_init_0 0 rfl rfl)
theorem dX8_init_1 : decode cX8_init 1 = .ok (.invokespecial 1, 3) := dk_183 0 1 (dk_at dksX8_init_0 1 rfl rfl)
theorem dX8_init_4 : decode cX8_init 4 = .ok (.aload_n 0, 1) := dk_42 (dk_at dksX8_init_0 4 rfl rfl)
theorem dX8_init_5 : decode cX8_init 5 = .ok (.sipush 984, 3) := dk_17 3 216 (dk_at dksX8_init_0 5 rfl rfl)
theorem dX8_init_8 : decode cX8_init 8 = .ok (.newarray .int, 2) := dk_188_10 (dk_at dksX8_init_0 8 rfl rfl)
theorem dX8_init_10 : decode cX8_init 10 = .ok (.putfield 7, 3) := dk_181 0 7 (dk_at dksX8_init_0 10 rfl rfl)
theorem dX8_init_13 : decode cX8_init 13 = .ok (.aload_n 0, 1) := dk_42 (dk_at dksX8_init_0 13 rfl rfl)
theorem dX8_init_14 : decode cX8_init 14 = .ok (.sipush 984, 3) := dk_17 3 216 (dk_at dksX8_init_0 14 rfl rfl)
theorem dX8_init_17 : decode cX8_init 17 = .ok (.newarray .int, 2) := dk_188_10 (dk_at dksX8_init_0 17 rfl rfl)
theorem dX8_init_19 : decode cX8_init 19 = .ok (.putfield 13, 3) := dk_181 0 13 (dk_at dksX8_init_0 19 rfl rfl)
theorem dX8_init_22 : decode cX8_init 22 = .ok (.aload_n 0, 1) := dk_42 (dk_at dksX8_init_0 22 rfl rfl)
theorem dX8_init_23 : decode cX8_init 23 = .ok (.sipush 584, 3) := dk_17 2 72 (dk_at dksX8_init_1 0 rfl rfl)
theorem dX8_init_26 : decode cX8_init 26 = .ok (.newarray .int, 2) := dk_188_10 (dk_at dksX8_init_1 3 rfl rfl)
theorem dX8_init_28 : decode cX8_init 28 = .ok (.putfield 16, 3) := dk_181 0 16 (dk_at dksX8_init_1 5 rfl rfl)
theorem dX8_init_31 : decode cX8_init 31 = .ok (.aload_n 0, 1) := dk_42 (dk_at dksX8_init_1 8 rfl rfl)
theorem dX8_init_32 : decode cX8_init 32 = .ok (.sipush 7008, 3) := dk_17 27 96 (dk_at dksX8_init_1 9 rfl rfl)
theorem dX8_init_35 : decode cX8_init 35 = .ok (.newarray .int, 2) := dk_188_10 (dk_at dksX8_init_1 12 rfl rfl)
theorem dX8_init_37 : decode cX8_init 37 = .ok (.putfield 19, 3) := dk_181 0 19 (dk_at dksX8_init_1 14 rfl rfl)
theorem dX8_init_40 : decode cX8_init 40 = .ok (.aload_n 0, 1) := dk_42 (dk_at dksX8_init_1 17 rfl rfl)
theorem dX8_init_41 : decode cX8_init 41 = .ok (.sipush 400, 3) := dk_17 1 144 (dk_at dksX8_init_1 18 rfl rfl)
theorem dX8_init_44 : decode cX8_init 44 = .ok (.newarray .int, 2) := dk_188_10 (dk_at dksX8_init_1 21 rfl rfl)
theorem dX8_init_46 : decode cX8_init 46 = .ok (.putfield 22, 3) := dk_181 0 22 (dk_at dksX8_init_2 0 rfl rfl)
theorem dX8_init_49 : decode cX8_init 49 = .ok (.aload_n 0, 1) := dk_42 (dk_at dksX8_init_2 3 rfl rfl)
theorem dX8_init_50 : decode cX8_init 50 = .ok (.iconst (-1), 1) := dk_2 (dk_at dksX8_init_2 4 rfl rfl)
theorem dX8_init_51 : decode cX8_init 51 = .ok (.putfield 25, 3) := dk_181 0 25 (dk_at dksX8_init_2 5 rfl rfl)
theorem dX8_init_54 : decode cX8_init 54 = .ok (.aload_n 0, 1) := dk_42 (dk_at dksX8_init_2 8 rfl rfl)
theorem dX8_init_55 : decode cX8_init 55 = .ok (.bipush 6, 2) := dk_16 6 (dk_at dksX8_init_2 9 rfl rfl)
theorem dX8_init_57 : decode cX8_init 57 = .ok (.newarray .int, 2) := dk_188_10 (dk_at dksX8_init_2 11 rfl rfl)
theorem dX8_init_59 : decode cX8_init 59 = .ok (.putfield 29, 3) := dk_181 0 29 (dk_at dksX8_init_2 13 rfl rfl)
theorem dX8_init_62 : decode cX8_init 62 = .ok (.aload_n 0, 1) := dk_42 (dk_at dksX8_init_2 16 rfl rfl)
theorem dX8_init_63 : decode cX8_init 63 = .ok (.bipush 36, 2) := dk_16 36 (dk_at dksX8_init_2 17 rfl rfl)
theorem dX8_init_65 : decode cX8_init 65 = .ok (.newarray .int, 2) := dk_188_10 (dk_at dksX8_init_2 19 rfl rfl)
theorem dX8_init_67 : decode cX8_init 67 = .ok (.putfield 32, 3) := dk_181 0 32 (dk_at dksX8_init_2 21 rfl rfl)
theorem dX8_init_70 : decode cX8_init 70 = .ok (.aload_n 0, 1) := dk_42 (dk_at dksX8_init_3 0 rfl rfl)
theorem dX8_init_71 : decode cX8_init 71 = .ok (.bipush 10, 2) := dk_16 10 (dk_at dksX8_init_3 1 rfl rfl)
theorem dX8_init_73 : decode cX8_init 73 = .ok (.newarray .int, 2) := dk_188_10 (dk_at dksX8_init_3 3 rfl rfl)
theorem dX8_init_75 : decode cX8_init 75 = .ok (.putfield 35, 3) := dk_181 0 35 (dk_at dksX8_init_3 5 rfl rfl)
theorem dX8_init_78 : decode cX8_init 78 = .ok (.aload_n 0, 1) := dk_42 (dk_at dksX8_init_3 8 rfl rfl)
theorem dX8_init_79 : decode cX8_init 79 = .ok (.sipush 1024, 3) := dk_17 4 0 (dk_at dksX8_init_3 9 rfl rfl)
theorem dX8_init_82 : decode cX8_init 82 = .ok (.newarray .int, 2) := dk_188_10 (dk_at dksX8_init_3 12 rfl rfl)
theorem dX8_init_84 : decode cX8_init 84 = .ok (.putfield 38, 3) := dk_181 0 38 (dk_at dksX8_init_3 14 rfl rfl)
theorem dX8_init_87 : decode cX8_init 87 = .ok (.aload_n 0, 1) := dk_42 (dk_at dksX8_init_3 17 rfl rfl)
theorem dX8_init_88 : decode cX8_init 88 = .ok (.bipush 10, 2) := dk_16 10 (dk_at dksX8_init_3 18 rfl rfl)
theorem dX8_init_90 : decode cX8_init 90 = .ok (.newarray .int, 2) := dk_188_10 (dk_at dksX8_init_3 20 rfl rfl)
theorem dX8_init_92 : decode cX8_init 92 = .ok (.putfield 41, 3) := dk_181 0 41 (dk_at dksX8_init_4 0 rfl rfl)
theorem dX8_init_95 : decode cX8_init 95 = .ok (.aload_n 0, 1) := dk_42 (dk_at dksX8_init_4 3 rfl rfl)
theorem dX8_init_96 : decode cX8_init 96 = .ok (.sipush 10240, 3) := dk_17 40 0 (dk_at dksX8_init_4 4 rfl rfl)
theorem dX8_init_99 : decode cX8_init 99 = .ok (.newarray .int, 2) := dk_188_10 (dk_at dksX8_init_4 7 rfl rfl)
theorem dX8_init_101 : decode cX8_init 101 = .ok (.putfield 44, 3) := dk_181 0 44 (dk_at dksX8_init_4 9 rfl rfl)
theorem dX8_init_104 : decode cX8_init 104 = .ok (.aload_n 0, 1) := dk_42 (dk_at dksX8_init_4 12 rfl rfl)
theorem dX8_init_105 : decode cX8_init 105 = .ok (.bipush 10, 2) := dk_16 10 (dk_at dksX8_init_4 13 rfl rfl)
theorem dX8_init_107 : decode cX8_init 107 = .ok (.newarray .int, 2) := dk_188_10 (dk_at dksX8_init_4 15 rfl rfl)
theorem dX8_init_109 : decode cX8_init 109 = .ok (.putfield 47, 3) := dk_181 0 47 (dk_at dksX8_init_4 17 rfl rfl)
theorem dX8_init_112 : decode cX8_init 112 = .ok (.aload_n 0, 1) := dk_42 (dk_at dksX8_init_4 20 rfl rfl)
theorem dX8_init_113 : decode cX8_init 113 = .ok (.getfield 7, 3) := dk_180 0 7 (dk_at dksX8_init_4 21 rfl rfl)
theorem dX8_init_116 : decode cX8_init 116 = .ok (.iconst 1, 1) := dk_4 (dk_at dksX8_init_5 0 rfl rfl)
theorem dX8_init_117 : decode cX8_init 117 = .ok (.iconst (-1), 1) := dk_2 (dk_at dksX8_init_5 1 rfl rfl)
theorem dX8_init_118 : decode cX8_init 118 = .ok (.iastore, 1) := dk_79 (dk_at dksX8_init_5 2 rfl rfl)
theorem dX8_init_119 : decode cX8_init 119 = .ok (.aload_n 0, 1) := dk_42 (dk_at dksX8_init_5 3 rfl rfl)
theorem dX8_init_120 : decode cX8_init 120 = .ok (.getfield 7, 3) := dk_180 0 7 (dk_at dksX8_init_5 4 rfl rfl)
theorem dX8_init_123 : decode cX8_init 123 = .ok (.iconst 4, 1) := dk_7 (dk_at dksX8_init_5 7 rfl rfl)
theorem dX8_init_124 : decode cX8_init 124 = .ok (.bipush 6, 2) := dk_16 6 (dk_at dksX8_init_5 8 rfl rfl)
theorem dX8_init_126 : decode cX8_init 126 = .ok (.iastore, 1) := dk_79 (dk_at dksX8_init_5 10 rfl rfl)
theorem dX8_init_127 : decode cX8_init 127 = .ok (.aload_n 0, 1) := dk_42 (dk_at dksX8_init_5 11 rfl rfl)
theorem dX8_init_128 : decode cX8_init 128 = .ok (.getfield 7, 3) := dk_180 0 7 (dk_at dksX8_init_5 12 rfl rfl)
theorem dX8_init_131 : decode cX8_init 131 = .ok (.bipush 9, 2) := dk_16 9 (dk_at dksX8_init_5 15 rfl rfl)
theorem dX8_init_133 : decode cX8_init 133 = .ok (.iconst 1, 1) := dk_4 (dk_at dksX8_init_5 17 rfl rfl)
theorem dX8_init_134 : decode cX8_init 134 = .ok (.iastore, 1) := dk_79 (dk_at dksX8_init_5 18 rfl rfl)
theorem dX8_init_135 : decode cX8_init 135 = .ok (.iconst 0, 1) := dk_3 (dk_at dksX8_init_5 19 rfl rfl)
theorem dX8_init_136 : decode cX8_init 136 = .ok (.istore_n 1, 1) := dk_60 (dk_at dksX8_init_5 20 rfl rfl)
theorem dX8_init_137 : decode cX8_init 137 = .ok (.iload_n 1, 1) := dk_27 (dk_at dksX8_init_5 21 rfl rfl)
theorem dX8_init_138 : decode cX8_init 138 = .ok (.bipush 12, 2) := dk_16 12 (dk_at dksX8_init_5 22 rfl rfl)
theorem dX8_init_140 : decode cX8_init 140 = .ok (.if_icmp .ge 20, 3) := dk_162 0 20 (dk_at dksX8_init_6 0 rfl rfl)
theorem dX8_init_143 : decode cX8_init 143 = .ok (.aload_n 0, 1) := dk_42 (dk_at dksX8_init_6 3 rfl rfl)
theorem dX8_init_144 : decode cX8_init 144 = .ok (.getfield 7, 3) := dk_180 0 7 (dk_at dksX8_init_6 4 rfl rfl)
theorem dX8_init_147 : decode cX8_init 147 = .ok (.sipush 272, 3) := dk_17 1 16 (dk_at dksX8_init_6 7 rfl rfl)
theorem dX8_init_150 : decode cX8_init 150 = .ok (.iload_n 1, 1) := dk_27 (dk_at dksX8_init_6 10 rfl rfl)
theorem dX8_init_151 : decode cX8_init 151 = .ok (.iadd, 1) := dk_96 (dk_at dksX8_init_6 11 rfl rfl)
theorem dX8_init_152 : decode cX8_init 152 = .ok (.iconst (-1), 1) := dk_2 (dk_at dksX8_init_6 12 rfl rfl)
theorem dX8_init_153 : decode cX8_init 153 = .ok (.iastore, 1) := dk_79 (dk_at dksX8_init_6 13 rfl rfl)
theorem dX8_init_154 : decode cX8_init 154 = .ok (.iinc 1 1, 3) := dk_132 1 1 (dk_at dksX8_init_6 14 rfl rfl)
theorem dX8_init_157 : decode cX8_init 157 = .ok (.goto (-20), 3) := dk_167 255 236 (dk_at dksX8_init_6 17 rfl rfl)
theorem dX8_init_160 : decode cX8_init 160 = .ok (.return_, 1) := dk_177 (dk_at dksX8_init_6 20 rfl rfl)
abbrev cX8_thrown : ByteArray := prog_21_method_2_code
def yX8_thrown : MethodName := ⟨RX8, "thrown", "()I"⟩
theorem dX8_thrown_0 : decode cX8_thrown 0 = .ok (.aload_n 0, 1) := by decide +kernel
theorem dX8_thrown_1 : decode cX8_thrown 1 = .ok (.getfield 50, 3) := by decide +kernel
theorem dX8_thrown_4 : decode cX8_thrown 4 = .ok (.ireturn, 1) := by decide +kernel
abbrev cX8_feed : ByteArray := prog_21_method_17_code
def yX8_feed : MethodName := ⟨RX8, "feed", "(IIIII)I"⟩
def dkwX8_feed_5 : List UInt8 := [167, 255, 162, 42, 180, 0, 61, 172]
abbrev dktX8_feed_5 : List UInt8 := dkwX8_feed_5 ++ []
def dkwX8_feed_4 : List UInt8 := [112, 104, 100, 124, 17, 0, 255, 126, 79, 42, 89, 180, 0, 61, 4, 96, 181, 0, 61, 132, 6, 1]
abbrev dktX8_feed_4 : List UInt8 := dkwX8_feed_4 ++ dktX8_feed_5
def dkwX8_feed_3 : List UInt8 := [167, 0, 5, 21, 5, 54, 7, 42, 180, 0, 22, 42, 180, 0, 61, 21, 7, 16, 24, 16, 8, 21, 6, 7]
abbrev dktX8_feed_3 : List UInt8 := dkwX8_feed_3 ++ dktX8_feed_4
def dkwX8_feed_2 : List UInt8 := [28, 167, 0, 28, 21, 6, 16, 12, 162, 0, 7, 29, 167, 0, 17, 21, 6, 16, 16, 162, 0, 8, 21, 4]
abbrev dktX8_feed_2 : List UInt8 := dkwX8_feed_2 ++ dktX8_feed_3
def dkwX8_feed_1 : List UInt8 := [21, 6, 16, 20, 162, 0, 93, 21, 6, 7, 162, 0, 7, 27, 167, 0, 39, 21, 6, 16, 8, 162, 0, 7]
abbrev dktX8_feed_1 : List UInt8 := dkwX8_feed_1 ++ dktX8_feed_2
def dkwX8_feed_0 : List UInt8 := [42, 3, 181, 0, 50, 42, 180, 0, 61, 16, 20, 96, 17, 1, 144, 164, 0, 5, 2, 172, 3, 54, 6]
abbrev dktX8_feed_0 : List UInt8 := dkwX8_feed_0 ++ dktX8_feed_1
theorem dksX8_feed_0 : cX8_feed.data.toList.drop 0 = dktX8_feed_0 := by decide +kernel
theorem dksX8_feed_1 : cX8_feed.data.toList.drop 23 = dktX8_feed_1 := dk_seg dksX8_feed_0 23 rfl rfl
theorem dksX8_feed_2 : cX8_feed.data.toList.drop 47 = dktX8_feed_2 := dk_seg dksX8_feed_1 24 rfl rfl
theorem dksX8_feed_3 : cX8_feed.data.toList.drop 71 = dktX8_feed_3 := dk_seg dksX8_feed_2 24 rfl rfl
theorem dksX8_feed_4 : cX8_feed.data.toList.drop 95 = dktX8_feed_4 := dk_seg dksX8_feed_3 24 rfl rfl
theorem dksX8_feed_5 : cX8_feed.data.toList.drop 117 = dktX8_feed_5 := dk_seg dksX8_feed_4 22 rfl rfl
theorem dX8_feed_0 : decode cX8_feed 0 = .ok (.aload_n 0, 1) := dk_42 (dk_at dksX8_feed_0 0 rfl rfl)
theorem dX8_feed_1 : decode cX8_feed 1 = .ok (.iconst 0, 1) := dk_3 (dk_at dksX8_feed_0 1 rfl rfl)
theorem dX8_feed_2 : decode cX8_feed 2 = .ok (.putfield 50, 3) := dk_181 0 50 (dk_at dksX8_feed_0 2 rfl rfl)
theorem dX8_feed_5 : decode cX8_feed 5 = .ok (.aload_n 0, 1) := dk_42 (dk_at dksX8_feed_0 5 rfl rfl)
theorem dX8_feed_6 : decode cX8_feed 6 = .ok (.getfield 61, 3) := dk_180 0 61 (dk_at dksX8_feed_0 6 rfl rfl)
theorem dX8_feed_9 : decode cX8_feed 9 = .ok (.bipush 20, 2) := dk_16 20 (dk_at dksX8_feed_0 9 rfl rfl)
theorem dX8_feed_11 : decode cX8_feed 11 = .ok (.iadd, 1) := dk_96 (dk_at dksX8_feed_0 11 rfl rfl)
theorem dX8_feed_12 : decode cX8_feed 12 = .ok (.sipush 400, 3) := dk_17 1 144 (dk_at dksX8_feed_0 12 rfl rfl)
theorem dX8_feed_15 : decode cX8_feed 15 = .ok (.if_icmp .le 5, 3) := dk_164 0 5 (dk_at dksX8_feed_0 15 rfl rfl)
theorem dX8_feed_18 : decode cX8_feed 18 = .ok (.iconst (-1), 1) := dk_2 (dk_at dksX8_feed_0 18 rfl rfl)
theorem dX8_feed_19 : decode cX8_feed 19 = .ok (.ireturn, 1) := dk_172 (dk_at dksX8_feed_0 19 rfl rfl)
theorem dX8_feed_20 : decode cX8_feed 20 = .ok (.iconst 0, 1) := dk_3 (dk_at dksX8_feed_0 20 rfl rfl)
theorem dX8_feed_21 : decode cX8_feed 21 = .ok (.istore 6, 2) := dk_54 6 (dk_at dksX8_feed_0 21 rfl rfl)
theorem dX8_feed_23 : decode cX8_feed 23 = .ok (.iload 6, 2) := dk_21 6 (dk_at dksX8_feed_1 0 rfl rfl)
theorem dX8_feed_25 : decode cX8_feed 25 = .ok (.bipush 20, 2) := dk_16 20 (dk_at dksX8_feed_1 2 rfl rfl)
theorem dX8_feed_27 : decode cX8_feed 27 = .ok (.if_icmp .ge 93, 3) := dk_162 0 93 (dk_at dksX8_feed_1 4 rfl rfl)
theorem dX8_feed_30 : decode cX8_feed 30 = .ok (.iload 6, 2) := dk_21 6 (dk_at dksX8_feed_1 7 rfl rfl)
theorem dX8_feed_32 : decode cX8_feed 32 = .ok (.iconst 4, 1) := dk_7 (dk_at dksX8_feed_1 9 rfl rfl)
theorem dX8_feed_33 : decode cX8_feed 33 = .ok (.if_icmp .ge 7, 3) := dk_162 0 7 (dk_at dksX8_feed_1 10 rfl rfl)
theorem dX8_feed_36 : decode cX8_feed 36 = .ok (.iload_n 1, 1) := dk_27 (dk_at dksX8_feed_1 13 rfl rfl)
theorem dX8_feed_37 : decode cX8_feed 37 = .ok (.goto 39, 3) := dk_167 0 39 (dk_at dksX8_feed_1 14 rfl rfl)
theorem dX8_feed_40 : decode cX8_feed 40 = .ok (.iload 6, 2) := dk_21 6 (dk_at dksX8_feed_1 17 rfl rfl)
theorem dX8_feed_42 : decode cX8_feed 42 = .ok (.bipush 8, 2) := dk_16 8 (dk_at dksX8_feed_1 19 rfl rfl)
theorem dX8_feed_44 : decode cX8_feed 44 = .ok (.if_icmp .ge 7, 3) := dk_162 0 7 (dk_at dksX8_feed_1 21 rfl rfl)
theorem dX8_feed_47 : decode cX8_feed 47 = .ok (.iload_n 2, 1) := dk_28 (dk_at dksX8_feed_2 0 rfl rfl)
theorem dX8_feed_48 : decode cX8_feed 48 = .ok (.goto 28, 3) := dk_167 0 28 (dk_at dksX8_feed_2 1 rfl rfl)
theorem dX8_feed_51 : decode cX8_feed 51 = .ok (.iload 6, 2) := dk_21 6 (dk_at dksX8_feed_2 4 rfl rfl)
theorem dX8_feed_53 : decode cX8_feed 53 = .ok (.bipush 12, 2) := dk_16 12 (dk_at dksX8_feed_2 6 rfl rfl)
theorem dX8_feed_55 : decode cX8_feed 55 = .ok (.if_icmp .ge 7, 3) := dk_162 0 7 (dk_at dksX8_feed_2 8 rfl rfl)
theorem dX8_feed_58 : decode cX8_feed 58 = .ok (.iload_n 3, 1) := dk_29 (dk_at dksX8_feed_2 11 rfl rfl)
theorem dX8_feed_59 : decode cX8_feed 59 = .ok (.goto 17, 3) := dk_167 0 17 (dk_at dksX8_feed_2 12 rfl rfl)
theorem dX8_feed_62 : decode cX8_feed 62 = .ok (.iload 6, 2) := dk_21 6 (dk_at dksX8_feed_2 15 rfl rfl)
theorem dX8_feed_64 : decode cX8_feed 64 = .ok (.bipush 16, 2) := dk_16 16 (dk_at dksX8_feed_2 17 rfl rfl)
theorem dX8_feed_66 : decode cX8_feed 66 = .ok (.if_icmp .ge 8, 3) := dk_162 0 8 (dk_at dksX8_feed_2 19 rfl rfl)
theorem dX8_feed_69 : decode cX8_feed 69 = .ok (.iload 4, 2) := dk_21 4 (dk_at dksX8_feed_2 22 rfl rfl)
theorem dX8_feed_71 : decode cX8_feed 71 = .ok (.goto 5, 3) := dk_167 0 5 (dk_at dksX8_feed_3 0 rfl rfl)
theorem dX8_feed_74 : decode cX8_feed 74 = .ok (.iload 5, 2) := dk_21 5 (dk_at dksX8_feed_3 3 rfl rfl)
theorem dX8_feed_76 : decode cX8_feed 76 = .ok (.istore 7, 2) := dk_54 7 (dk_at dksX8_feed_3 5 rfl rfl)
theorem dX8_feed_78 : decode cX8_feed 78 = .ok (.aload_n 0, 1) := dk_42 (dk_at dksX8_feed_3 7 rfl rfl)
theorem dX8_feed_79 : decode cX8_feed 79 = .ok (.getfield 22, 3) := dk_180 0 22 (dk_at dksX8_feed_3 8 rfl rfl)
theorem dX8_feed_82 : decode cX8_feed 82 = .ok (.aload_n 0, 1) := dk_42 (dk_at dksX8_feed_3 11 rfl rfl)
theorem dX8_feed_83 : decode cX8_feed 83 = .ok (.getfield 61, 3) := dk_180 0 61 (dk_at dksX8_feed_3 12 rfl rfl)
theorem dX8_feed_86 : decode cX8_feed 86 = .ok (.iload 7, 2) := dk_21 7 (dk_at dksX8_feed_3 15 rfl rfl)
theorem dX8_feed_88 : decode cX8_feed 88 = .ok (.bipush 24, 2) := dk_16 24 (dk_at dksX8_feed_3 17 rfl rfl)
theorem dX8_feed_90 : decode cX8_feed 90 = .ok (.bipush 8, 2) := dk_16 8 (dk_at dksX8_feed_3 19 rfl rfl)
theorem dX8_feed_92 : decode cX8_feed 92 = .ok (.iload 6, 2) := dk_21 6 (dk_at dksX8_feed_3 21 rfl rfl)
theorem dX8_feed_94 : decode cX8_feed 94 = .ok (.iconst 4, 1) := dk_7 (dk_at dksX8_feed_3 23 rfl rfl)
theorem dX8_feed_95 : decode cX8_feed 95 = .ok (.irem, 1) := dk_112 (dk_at dksX8_feed_4 0 rfl rfl)
theorem dX8_feed_96 : decode cX8_feed 96 = .ok (.imul, 1) := dk_104 (dk_at dksX8_feed_4 1 rfl rfl)
theorem dX8_feed_97 : decode cX8_feed 97 = .ok (.isub, 1) := dk_100 (dk_at dksX8_feed_4 2 rfl rfl)
theorem dX8_feed_98 : decode cX8_feed 98 = .ok (.iushr, 1) := dk_124 (dk_at dksX8_feed_4 3 rfl rfl)
theorem dX8_feed_99 : decode cX8_feed 99 = .ok (.sipush 255, 3) := dk_17 0 255 (dk_at dksX8_feed_4 4 rfl rfl)
theorem dX8_feed_102 : decode cX8_feed 102 = .ok (.iand, 1) := dk_126 (dk_at dksX8_feed_4 7 rfl rfl)
theorem dX8_feed_103 : decode cX8_feed 103 = .ok (.iastore, 1) := dk_79 (dk_at dksX8_feed_4 8 rfl rfl)
theorem dX8_feed_104 : decode cX8_feed 104 = .ok (.aload_n 0, 1) := dk_42 (dk_at dksX8_feed_4 9 rfl rfl)
theorem dX8_feed_105 : decode cX8_feed 105 = .ok (.dup, 1) := dk_89 (dk_at dksX8_feed_4 10 rfl rfl)
theorem dX8_feed_106 : decode cX8_feed 106 = .ok (.getfield 61, 3) := dk_180 0 61 (dk_at dksX8_feed_4 11 rfl rfl)
theorem dX8_feed_109 : decode cX8_feed 109 = .ok (.iconst 1, 1) := dk_4 (dk_at dksX8_feed_4 14 rfl rfl)
theorem dX8_feed_110 : decode cX8_feed 110 = .ok (.iadd, 1) := dk_96 (dk_at dksX8_feed_4 15 rfl rfl)
theorem dX8_feed_111 : decode cX8_feed 111 = .ok (.putfield 61, 3) := dk_181 0 61 (dk_at dksX8_feed_4 16 rfl rfl)
theorem dX8_feed_114 : decode cX8_feed 114 = .ok (.iinc 6 1, 3) := dk_132 6 1 (dk_at dksX8_feed_4 19 rfl rfl)
theorem dX8_feed_117 : decode cX8_feed 117 = .ok (.goto (-94), 3) := dk_167 255 162 (dk_at dksX8_feed_5 0 rfl rfl)
theorem dX8_feed_120 : decode cX8_feed 120 = .ok (.aload_n 0, 1) := dk_42 (dk_at dksX8_feed_5 3 rfl rfl)
theorem dX8_feed_121 : decode cX8_feed 121 = .ok (.getfield 61, 3) := dk_180 0 61 (dk_at dksX8_feed_5 4 rfl rfl)
theorem dX8_feed_124 : decode cX8_feed 124 = .ok (.ireturn, 1) := dk_172 (dk_at dksX8_feed_5 7 rfl rfl)
abbrev cX8_end : ByteArray := prog_21_method_18_code
def yX8_end : MethodName := ⟨RX8, "end", "(I)Z"⟩
def dkwX8_end_1 : List UInt8 := [4, 172]
abbrev dktX8_end_1 : List UInt8 := dkwX8_end_1 ++ []
def dkwX8_end_0 : List UInt8 := [42, 3, 181, 0, 50, 27, 3, 42, 180, 0, 61, 184, 0, 53, 154, 0, 5, 3, 172, 42, 27, 181, 0, 61]
abbrev dktX8_end_0 : List UInt8 := dkwX8_end_0 ++ dktX8_end_1
theorem dksX8_end_0 : cX8_end.data.toList.drop 0 = dktX8_end_0 := by decide +kernel
theorem dksX8_end_1 : cX8_end.data.toList.drop 24 = dktX8_end_1 := dk_seg dksX8_end_0 24 rfl rfl
theorem dX8_end_0 : decode cX8_end 0 = .ok (.aload_n 0, 1) := dk_42 (dk_at dksX8_end_0 0 rfl rfl)
theorem dX8_end_1 : decode cX8_end 1 = .ok (.iconst 0, 1) := dk_3 (dk_at dksX8_end_0 1 rfl rfl)
theorem dX8_end_2 : decode cX8_end 2 = .ok (.putfield 50, 3) := dk_181 0 50 (dk_at dksX8_end_0 2 rfl rfl)
theorem dX8_end_5 : decode cX8_end 5 = .ok (.iload_n 1, 1) := dk_27 (dk_at dksX8_end_0 5 rfl rfl)
theorem dX8_end_6 : decode cX8_end 6 = .ok (.iconst 0, 1) := dk_3 (dk_at dksX8_end_0 6 rfl rfl)
theorem dX8_end_7 : decode cX8_end 7 = .ok (.aload_n 0, 1) := dk_42 (dk_at dksX8_end_0 7 rfl rfl)
theorem dX8_end_8 : decode cX8_end 8 = .ok (.getfield 61, 3) := dk_180 0 61 (dk_at dksX8_end_0 8 rfl rfl)
theorem dX8_end_11 : decode cX8_end 11 = .ok (.invokestatic 53, 3) := dk_184 0 53 (dk_at dksX8_end_0 11 rfl rfl)
theorem dX8_end_14 : decode cX8_end 14 = .ok (.ifCond .ne 5, 3) := dk_154 0 5 (dk_at dksX8_end_0 14 rfl rfl)
theorem dX8_end_17 : decode cX8_end 17 = .ok (.iconst 0, 1) := dk_3 (dk_at dksX8_end_0 17 rfl rfl)
theorem dX8_end_18 : decode cX8_end 18 = .ok (.ireturn, 1) := dk_172 (dk_at dksX8_end_0 18 rfl rfl)
theorem dX8_end_19 : decode cX8_end 19 = .ok (.aload_n 0, 1) := dk_42 (dk_at dksX8_end_0 19 rfl rfl)
theorem dX8_end_20 : decode cX8_end 20 = .ok (.iload_n 1, 1) := dk_27 (dk_at dksX8_end_0 20 rfl rfl)
theorem dX8_end_21 : decode cX8_end 21 = .ok (.putfield 61, 3) := dk_181 0 61 (dk_at dksX8_end_0 21 rfl rfl)
theorem dX8_end_24 : decode cX8_end 24 = .ok (.iconst 1, 1) := dk_4 (dk_at dksX8_end_1 0 rfl rfl)
theorem dX8_end_25 : decode cX8_end 25 = .ok (.ireturn, 1) := dk_172 (dk_at dksX8_end_1 1 rfl rfl)
abbrev cX8_isIn : ByteArray := prog_21_method_3_code
def yX8_isIn : MethodName := ⟨RX8, "isIn", "(III)Z"⟩
def dkwX8_isIn_0 : List UInt8 := [26, 27, 161, 0, 12, 26, 28, 163, 0, 7, 4, 167, 0, 4, 3, 172]
abbrev dktX8_isIn_0 : List UInt8 := dkwX8_isIn_0 ++ []
theorem dksX8_isIn_0 : cX8_isIn.data.toList.drop 0 = dktX8_isIn_0 := by decide +kernel
theorem dX8_isIn_0 : decode cX8_isIn 0 = .ok (.iload_n 0, 1) := dk_26 (dk_at dksX8_isIn_0 0 rfl rfl)
theorem dX8_isIn_1 : decode cX8_isIn 1 = .ok (.iload_n 1, 1) := dk_27 (dk_at dksX8_isIn_0 1 rfl rfl)
theorem dX8_isIn_2 : decode cX8_isIn 2 = .ok (.if_icmp .lt 12, 3) := dk_161 0 12 (dk_at dksX8_isIn_0 2 rfl rfl)
theorem dX8_isIn_5 : decode cX8_isIn 5 = .ok (.iload_n 0, 1) := dk_26 (dk_at dksX8_isIn_0 5 rfl rfl)
theorem dX8_isIn_6 : decode cX8_isIn 6 = .ok (.iload_n 2, 1) := dk_28 (dk_at dksX8_isIn_0 6 rfl rfl)
theorem dX8_isIn_7 : decode cX8_isIn 7 = .ok (.if_icmp .gt 7, 3) := dk_163 0 7 (dk_at dksX8_isIn_0 7 rfl rfl)
theorem dX8_isIn_10 : decode cX8_isIn 10 = .ok (.iconst 1, 1) := dk_4 (dk_at dksX8_isIn_0 10 rfl rfl)
theorem dX8_isIn_11 : decode cX8_isIn 11 = .ok (.goto 4, 3) := dk_167 0 4 (dk_at dksX8_isIn_0 11 rfl rfl)
theorem dX8_isIn_14 : decode cX8_isIn 14 = .ok (.iconst 0, 1) := dk_3 (dk_at dksX8_isIn_0 14 rfl rfl)
theorem dX8_isIn_15 : decode cX8_isIn 15 = .ok (.ireturn, 1) := dk_172 (dk_at dksX8_isIn_0 15 rfl rfl)
abbrev cX8_door : ByteArray := prog_21_method_39_code
def yX8_door : MethodName := ⟨RX8, "door", "()I"⟩
def dkwX8_door_3 : List UInt8 := [181, 0, 182, 42, 180, 0, 7, 3, 46, 172]
abbrev dktX8_door_3 : List UInt8 := dkwX8_door_3 ++ []
def dkwX8_door_2 : List UInt8 := [180, 0, 50, 158, 0, 9, 42, 182, 0, 179, 3, 172, 42, 180, 0, 7, 3, 92, 46, 4, 96, 79, 42, 3]
abbrev dktX8_door_2 : List UInt8 := dkwX8_door_2 ++ dktX8_door_3
def dkwX8_door_1 : List UInt8 := [167, 0, 19, 42, 180, 0, 7, 3, 46, 16, 12, 160, 0, 7, 5, 167, 0, 4, 3, 181, 0, 50, 42]
abbrev dktX8_door_1 : List UInt8 := dkwX8_door_1 ++ dktX8_door_2
def dkwX8_door_0 : List UInt8 := [42, 182, 0, 169, 42, 182, 0, 172, 42, 3, 182, 0, 175, 60, 42, 42, 180, 0, 25, 2, 159, 0, 7, 4]
abbrev dktX8_door_0 : List UInt8 := dkwX8_door_0 ++ dktX8_door_1
theorem dksX8_door_0 : cX8_door.data.toList.drop 0 = dktX8_door_0 := by decide +kernel
theorem dksX8_door_1 : cX8_door.data.toList.drop 24 = dktX8_door_1 := dk_seg dksX8_door_0 24 rfl rfl
theorem dksX8_door_2 : cX8_door.data.toList.drop 47 = dktX8_door_2 := dk_seg dksX8_door_1 23 rfl rfl
theorem dksX8_door_3 : cX8_door.data.toList.drop 71 = dktX8_door_3 := dk_seg dksX8_door_2 24 rfl rfl
theorem dX8_door_0 : decode cX8_door 0 = .ok (.aload_n 0, 1) := dk_42 (dk_at dksX8_door_0 0 rfl rfl)
theorem dX8_door_1 : decode cX8_door 1 = .ok (.invokevirtual 169, 3) := dk_182 0 169 (dk_at dksX8_door_0 1 rfl rfl)
theorem dX8_door_4 : decode cX8_door 4 = .ok (.aload_n 0, 1) := dk_42 (dk_at dksX8_door_0 4 rfl rfl)
theorem dX8_door_5 : decode cX8_door 5 = .ok (.invokevirtual 172, 3) := dk_182 0 172 (dk_at dksX8_door_0 5 rfl rfl)
theorem dX8_door_8 : decode cX8_door 8 = .ok (.aload_n 0, 1) := dk_42 (dk_at dksX8_door_0 8 rfl rfl)
theorem dX8_door_9 : decode cX8_door 9 = .ok (.iconst 0, 1) := dk_3 (dk_at dksX8_door_0 9 rfl rfl)
theorem dX8_door_10 : decode cX8_door 10 = .ok (.invokevirtual 175, 3) := dk_182 0 175 (dk_at dksX8_door_0 10 rfl rfl)
theorem dX8_door_13 : decode cX8_door 13 = .ok (.istore_n 1, 1) := dk_60 (dk_at dksX8_door_0 13 rfl rfl)
theorem dX8_door_14 : decode cX8_door 14 = .ok (.aload_n 0, 1) := dk_42 (dk_at dksX8_door_0 14 rfl rfl)
theorem dX8_door_15 : decode cX8_door 15 = .ok (.aload_n 0, 1) := dk_42 (dk_at dksX8_door_0 15 rfl rfl)
theorem dX8_door_16 : decode cX8_door 16 = .ok (.getfield 25, 3) := dk_180 0 25 (dk_at dksX8_door_0 16 rfl rfl)
theorem dX8_door_19 : decode cX8_door 19 = .ok (.iconst (-1), 1) := dk_2 (dk_at dksX8_door_0 19 rfl rfl)
theorem dX8_door_20 : decode cX8_door 20 = .ok (.if_icmp .eq 7, 3) := dk_159 0 7 (dk_at dksX8_door_0 20 rfl rfl)
theorem dX8_door_23 : decode cX8_door 23 = .ok (.iconst 1, 1) := dk_4 (dk_at dksX8_door_0 23 rfl rfl)
theorem dX8_door_24 : decode cX8_door 24 = .ok (.goto 19, 3) := dk_167 0 19 (dk_at dksX8_door_1 0 rfl rfl)
theorem dX8_door_27 : decode cX8_door 27 = .ok (.aload_n 0, 1) := dk_42 (dk_at dksX8_door_1 3 rfl rfl)
theorem dX8_door_28 : decode cX8_door 28 = .ok (.getfield 7, 3) := dk_180 0 7 (dk_at dksX8_door_1 4 rfl rfl)
theorem dX8_door_31 : decode cX8_door 31 = .ok (.iconst 0, 1) := dk_3 (dk_at dksX8_door_1 7 rfl rfl)
theorem dX8_door_32 : decode cX8_door 32 = .ok (.iaload, 1) := dk_46 (dk_at dksX8_door_1 8 rfl rfl)
theorem dX8_door_33 : decode cX8_door 33 = .ok (.bipush 12, 2) := dk_16 12 (dk_at dksX8_door_1 9 rfl rfl)
theorem dX8_door_35 : decode cX8_door 35 = .ok (.if_icmp .ne 7, 3) := dk_160 0 7 (dk_at dksX8_door_1 11 rfl rfl)
theorem dX8_door_38 : decode cX8_door 38 = .ok (.iconst 2, 1) := dk_5 (dk_at dksX8_door_1 14 rfl rfl)
theorem dX8_door_39 : decode cX8_door 39 = .ok (.goto 4, 3) := dk_167 0 4 (dk_at dksX8_door_1 15 rfl rfl)
theorem dX8_door_42 : decode cX8_door 42 = .ok (.iconst 0, 1) := dk_3 (dk_at dksX8_door_1 18 rfl rfl)
theorem dX8_door_43 : decode cX8_door 43 = .ok (.putfield 50, 3) := dk_181 0 50 (dk_at dksX8_door_1 19 rfl rfl)
theorem dX8_door_46 : decode cX8_door 46 = .ok (.aload_n 0, 1) := dk_42 (dk_at dksX8_door_1 22 rfl rfl)
theorem dX8_door_47 : decode cX8_door 47 = .ok (.getfield 50, 3) := dk_180 0 50 (dk_at dksX8_door_2 0 rfl rfl)
theorem dX8_door_50 : decode cX8_door 50 = .ok (.ifCond .le 9, 3) := dk_158 0 9 (dk_at dksX8_door_2 3 rfl rfl)
theorem dX8_door_53 : decode cX8_door 53 = .ok (.aload_n 0, 1) := dk_42 (dk_at dksX8_door_2 6 rfl rfl)
theorem dX8_door_54 : decode cX8_door 54 = .ok (.invokevirtual 179, 3) := dk_182 0 179 (dk_at dksX8_door_2 7 rfl rfl)
theorem dX8_door_57 : decode cX8_door 57 = .ok (.iconst 0, 1) := dk_3 (dk_at dksX8_door_2 10 rfl rfl)
theorem dX8_door_58 : decode cX8_door 58 = .ok (.ireturn, 1) := dk_172 (dk_at dksX8_door_2 11 rfl rfl)
theorem dX8_door_59 : decode cX8_door 59 = .ok (.aload_n 0, 1) := dk_42 (dk_at dksX8_door_2 12 rfl rfl)
theorem dX8_door_60 : decode cX8_door 60 = .ok (.getfield 7, 3) := dk_180 0 7 (dk_at dksX8_door_2 13 rfl rfl)
theorem dX8_door_63 : decode cX8_door 63 = .ok (.iconst 0, 1) := dk_3 (dk_at dksX8_door_2 16 rfl rfl)
theorem dX8_door_64 : decode cX8_door 64 = .ok (.dup2, 1) := dk_92 (dk_at dksX8_door_2 17 rfl rfl)
theorem dX8_door_65 : decode cX8_door 65 = .ok (.iaload, 1) := dk_46 (dk_at dksX8_door_2 18 rfl rfl)
theorem dX8_door_66 : decode cX8_door 66 = .ok (.iconst 1, 1) := dk_4 (dk_at dksX8_door_2 19 rfl rfl)
theorem dX8_door_67 : decode cX8_door 67 = .ok (.iadd, 1) := dk_96 (dk_at dksX8_door_2 20 rfl rfl)
theorem dX8_door_68 : decode cX8_door 68 = .ok (.iastore, 1) := dk_79 (dk_at dksX8_door_2 21 rfl rfl)
theorem dX8_door_69 : decode cX8_door 69 = .ok (.aload_n 0, 1) := dk_42 (dk_at dksX8_door_2 22 rfl rfl)
theorem dX8_door_70 : decode cX8_door 70 = .ok (.iconst 0, 1) := dk_3 (dk_at dksX8_door_2 23 rfl rfl)
theorem dX8_door_71 : decode cX8_door 71 = .ok (.putfield 182, 3) := dk_181 0 182 (dk_at dksX8_door_3 0 rfl rfl)
theorem dX8_door_74 : decode cX8_door 74 = .ok (.aload_n 0, 1) := dk_42 (dk_at dksX8_door_3 3 rfl rfl)
theorem dX8_door_75 : decode cX8_door 75 = .ok (.getfield 7, 3) := dk_180 0 7 (dk_at dksX8_door_3 4 rfl rfl)
theorem dX8_door_78 : decode cX8_door 78 = .ok (.iconst 0, 1) := dk_3 (dk_at dksX8_door_3 7 rfl rfl)
theorem dX8_door_79 : decode cX8_door 79 = .ok (.iaload, 1) := dk_46 (dk_at dksX8_door_3 8 rfl rfl)
theorem dX8_door_80 : decode cX8_door 80 = .ok (.ireturn, 1) := dk_172 (dk_at dksX8_door_3 9 rfl rfl)
abbrev cX8_putsAside : ByteArray := prog_21_method_37_code
def yX8_putsAside : MethodName := ⟨RX8, "putsAside", "()V"⟩
def dkwX8_putsAside_1 : List UInt8 := [167, 255, 234, 177]
abbrev dktX8_putsAside_1 : List UInt8 := dkwX8_putsAside_1 ++ []
def dkwX8_putsAside_0 : List UInt8 := [3, 60, 27, 17, 2, 72, 162, 0, 21, 42, 180, 0, 16, 27, 42, 180, 0, 7, 27, 46, 79, 132, 1, 1]
abbrev dktX8_putsAside_0 : List UInt8 := dkwX8_putsAside_0 ++ dktX8_putsAside_1
theorem dksX8_putsAside_0 : cX8_putsAside.data.toList.drop 0 = dktX8_putsAside_0 := by decide +kernel
theorem dksX8_putsAside_1 : cX8_putsAside.data.toList.drop 24 = dktX8_putsAside_1 := dk_seg dksX8_putsAside_0 24 rfl rfl
theorem dX8_putsAside_0 : decode cX8_putsAside 0 = .ok (.iconst 0, 1) := dk_3 (dk_at dksX8_putsAside_0 0 rfl rfl)
theorem dX8_putsAside_1 : decode cX8_putsAside 1 = .ok (.istore_n 1, 1) := dk_60 (dk_at dksX8_putsAside_0 1 rfl rfl)
theorem dX8_putsAside_2 : decode cX8_putsAside 2 = .ok (.iload_n 1, 1) := dk_27 (dk_at dksX8_putsAside_0 2 rfl rfl)
theorem dX8_putsAside_3 : decode cX8_putsAside 3 = .ok (.sipush 584, 3) := dk_17 2 72 (dk_at dksX8_putsAside_0 3 rfl rfl)
theorem dX8_putsAside_6 : decode cX8_putsAside 6 = .ok (.if_icmp .ge 21, 3) := dk_162 0 21 (dk_at dksX8_putsAside_0 6 rfl rfl)
theorem dX8_putsAside_9 : decode cX8_putsAside 9 = .ok (.aload_n 0, 1) := dk_42 (dk_at dksX8_putsAside_0 9 rfl rfl)
theorem dX8_putsAside_10 : decode cX8_putsAside 10 = .ok (.getfield 16, 3) := dk_180 0 16 (dk_at dksX8_putsAside_0 10 rfl rfl)
theorem dX8_putsAside_13 : decode cX8_putsAside 13 = .ok (.iload_n 1, 1) := dk_27 (dk_at dksX8_putsAside_0 13 rfl rfl)
theorem dX8_putsAside_14 : decode cX8_putsAside 14 = .ok (.aload_n 0, 1) := dk_42 (dk_at dksX8_putsAside_0 14 rfl rfl)
theorem dX8_putsAside_15 : decode cX8_putsAside 15 = .ok (.getfield 7, 3) := dk_180 0 7 (dk_at dksX8_putsAside_0 15 rfl rfl)
theorem dX8_putsAside_18 : decode cX8_putsAside 18 = .ok (.iload_n 1, 1) := dk_27 (dk_at dksX8_putsAside_0 18 rfl rfl)
theorem dX8_putsAside_19 : decode cX8_putsAside 19 = .ok (.iaload, 1) := dk_46 (dk_at dksX8_putsAside_0 19 rfl rfl)
theorem dX8_putsAside_20 : decode cX8_putsAside 20 = .ok (.iastore, 1) := dk_79 (dk_at dksX8_putsAside_0 20 rfl rfl)
theorem dX8_putsAside_21 : decode cX8_putsAside 21 = .ok (.iinc 1 1, 3) := dk_132 1 1 (dk_at dksX8_putsAside_0 21 rfl rfl)
theorem dX8_putsAside_24 : decode cX8_putsAside 24 = .ok (.goto (-22), 3) := dk_167 255 234 (dk_at dksX8_putsAside_1 0 rfl rfl)
theorem dX8_putsAside_27 : decode cX8_putsAside 27 = .ok (.return_, 1) := dk_177 (dk_at dksX8_putsAside_1 3 rfl rfl)
abbrev cX8_begins : ByteArray := prog_21_method_35_code
def yX8_begins : MethodName := ⟨RX8, "begins", "()V"⟩
def dkwX8_begins_1 : List UInt8 := [3, 181, 0, 67, 42, 3, 181, 0, 157, 177]
abbrev dktX8_begins_1 : List UInt8 := dkwX8_begins_1 ++ []
def dkwX8_begins_0 : List UInt8 := [42, 2, 181, 0, 25, 42, 2, 181, 0, 64, 42, 42, 180, 0, 61, 181, 0, 70, 42, 3, 181, 0, 61, 42]
abbrev dktX8_begins_0 : List UInt8 := dkwX8_begins_0 ++ dktX8_begins_1
theorem dksX8_begins_0 : cX8_begins.data.toList.drop 0 = dktX8_begins_0 := by decide +kernel
theorem dksX8_begins_1 : cX8_begins.data.toList.drop 24 = dktX8_begins_1 := dk_seg dksX8_begins_0 24 rfl rfl
theorem dX8_begins_0 : decode cX8_begins 0 = .ok (.aload_n 0, 1) := dk_42 (dk_at dksX8_begins_0 0 rfl rfl)
theorem dX8_begins_1 : decode cX8_begins 1 = .ok (.iconst (-1), 1) := dk_2 (dk_at dksX8_begins_0 1 rfl rfl)
theorem dX8_begins_2 : decode cX8_begins 2 = .ok (.putfield 25, 3) := dk_181 0 25 (dk_at dksX8_begins_0 2 rfl rfl)
theorem dX8_begins_5 : decode cX8_begins 5 = .ok (.aload_n 0, 1) := dk_42 (dk_at dksX8_begins_0 5 rfl rfl)
theorem dX8_begins_6 : decode cX8_begins 6 = .ok (.iconst (-1), 1) := dk_2 (dk_at dksX8_begins_0 6 rfl rfl)
theorem dX8_begins_7 : decode cX8_begins 7 = .ok (.putfield 64, 3) := dk_181 0 64 (dk_at dksX8_begins_0 7 rfl rfl)
theorem dX8_begins_10 : decode cX8_begins 10 = .ok (.aload_n 0, 1) := dk_42 (dk_at dksX8_begins_0 10 rfl rfl)
theorem dX8_begins_11 : decode cX8_begins 11 = .ok (.aload_n 0, 1) := dk_42 (dk_at dksX8_begins_0 11 rfl rfl)
theorem dX8_begins_12 : decode cX8_begins 12 = .ok (.getfield 61, 3) := dk_180 0 61 (dk_at dksX8_begins_0 12 rfl rfl)
theorem dX8_begins_15 : decode cX8_begins 15 = .ok (.putfield 70, 3) := dk_181 0 70 (dk_at dksX8_begins_0 15 rfl rfl)
theorem dX8_begins_18 : decode cX8_begins 18 = .ok (.aload_n 0, 1) := dk_42 (dk_at dksX8_begins_0 18 rfl rfl)
theorem dX8_begins_19 : decode cX8_begins 19 = .ok (.iconst 0, 1) := dk_3 (dk_at dksX8_begins_0 19 rfl rfl)
theorem dX8_begins_20 : decode cX8_begins 20 = .ok (.putfield 61, 3) := dk_181 0 61 (dk_at dksX8_begins_0 20 rfl rfl)
theorem dX8_begins_23 : decode cX8_begins 23 = .ok (.aload_n 0, 1) := dk_42 (dk_at dksX8_begins_0 23 rfl rfl)
theorem dX8_begins_24 : decode cX8_begins 24 = .ok (.iconst 0, 1) := dk_3 (dk_at dksX8_begins_1 0 rfl rfl)
theorem dX8_begins_25 : decode cX8_begins 25 = .ok (.putfield 67, 3) := dk_181 0 67 (dk_at dksX8_begins_1 1 rfl rfl)
theorem dX8_begins_28 : decode cX8_begins 28 = .ok (.aload_n 0, 1) := dk_42 (dk_at dksX8_begins_1 4 rfl rfl)
theorem dX8_begins_29 : decode cX8_begins 29 = .ok (.iconst 0, 1) := dk_3 (dk_at dksX8_begins_1 5 rfl rfl)
theorem dX8_begins_30 : decode cX8_begins 30 = .ok (.putfield 157, 3) := dk_181 0 157 (dk_at dksX8_begins_1 6 rfl rfl)
theorem dX8_begins_33 : decode cX8_begins 33 = .ok (.return_, 1) := dk_177 (dk_at dksX8_begins_1 9 rfl rfl)
abbrev cX8_read : ByteArray := prog_21_method_36_code
def yX8_read : MethodName := ⟨RX8, "read", "(Z)I"⟩
def dkwX8_read_6 : List UInt8 := [182, 0, 93, 167, 255, 138, 29, 172]
abbrev dktX8_read_6 : List UInt8 := dkwX8_read_6 ++ []
def dkwX8_read_5 : List UInt8 := [182, 0, 166, 153, 0, 16, 42, 89, 180, 0, 67, 4, 96, 181, 0, 67, 167, 255, 149, 42, 42, 180, 0, 67]
abbrev dktX8_read_5 : List UInt8 := dkwX8_read_5 ++ dktX8_read_6
def dkwX8_read_4 : List UInt8 := [160, 0, 14, 42, 180, 0, 67, 42, 180, 0, 70, 160, 0, 8, 3, 61, 167, 255, 171, 42, 16, 59]
abbrev dktX8_read_4 : List UInt8 := dkwX8_read_4 ++ dktX8_read_5
def dkwX8_read_3 : List UInt8 := [182, 0, 160, 167, 0, 7, 42, 182, 0, 163, 132, 3, 1, 42, 182, 0, 77, 42, 180, 0, 25, 2]
abbrev dktX8_read_3 : List UInt8 := dkwX8_read_3 ++ dktX8_read_4
def dkwX8_read_2 : List UInt8 := [167, 0, 5, 16, 14, 160, 0, 14, 42, 42, 180, 0, 67, 182, 0, 93, 167, 0, 18, 27, 153, 0, 10, 42]
abbrev dktX8_read_2 : List UInt8 := dkwX8_read_2 ++ dktX8_read_3
def dkwX8_read_1 : List UInt8 := [153, 0, 120, 42, 180, 0, 25, 2, 160, 0, 112, 42, 182, 0, 77, 29, 27, 153, 0, 8, 16, 12]
abbrev dktX8_read_1 : List UInt8 := dkwX8_read_1 ++ dktX8_read_2
def dkwX8_read_0 : List UInt8 := [42, 182, 0, 77, 42, 180, 0, 67, 42, 180, 0, 70, 162, 0, 7, 4, 167, 0, 4, 3, 61, 3, 62, 28]
abbrev dktX8_read_0 : List UInt8 := dkwX8_read_0 ++ dktX8_read_1
theorem dksX8_read_0 : cX8_read.data.toList.drop 0 = dktX8_read_0 := by decide +kernel
theorem dksX8_read_1 : cX8_read.data.toList.drop 24 = dktX8_read_1 := dk_seg dksX8_read_0 24 rfl rfl
theorem dksX8_read_2 : cX8_read.data.toList.drop 46 = dktX8_read_2 := dk_seg dksX8_read_1 22 rfl rfl
theorem dksX8_read_3 : cX8_read.data.toList.drop 70 = dktX8_read_3 := dk_seg dksX8_read_2 24 rfl rfl
theorem dksX8_read_4 : cX8_read.data.toList.drop 92 = dktX8_read_4 := dk_seg dksX8_read_3 22 rfl rfl
theorem dksX8_read_5 : cX8_read.data.toList.drop 114 = dktX8_read_5 := dk_seg dksX8_read_4 22 rfl rfl
theorem dksX8_read_6 : cX8_read.data.toList.drop 138 = dktX8_read_6 := dk_seg dksX8_read_5 24 rfl rfl
theorem dX8_read_0 : decode cX8_read 0 = .ok (.aload_n 0, 1) := dk_42 (dk_at dksX8_read_0 0 rfl rfl)
theorem dX8_read_1 : decode cX8_read 1 = .ok (.invokevirtual 77, 3) := dk_182 0 77 (dk_at dksX8_read_0 1 rfl rfl)
theorem dX8_read_4 : decode cX8_read 4 = .ok (.aload_n 0, 1) := dk_42 (dk_at dksX8_read_0 4 rfl rfl)
theorem dX8_read_5 : decode cX8_read 5 = .ok (.getfield 67, 3) := dk_180 0 67 (dk_at dksX8_read_0 5 rfl rfl)
theorem dX8_read_8 : decode cX8_read 8 = .ok (.aload_n 0, 1) := dk_42 (dk_at dksX8_read_0 8 rfl rfl)
theorem dX8_read_9 : decode cX8_read 9 = .ok (.getfield 70, 3) := dk_180 0 70 (dk_at dksX8_read_0 9 rfl rfl)
theorem dX8_read_12 : decode cX8_read 12 = .ok (.if_icmp .ge 7, 3) := dk_162 0 7 (dk_at dksX8_read_0 12 rfl rfl)
theorem dX8_read_15 : decode cX8_read 15 = .ok (.iconst 1, 1) := dk_4 (dk_at dksX8_read_0 15 rfl rfl)
theorem dX8_read_16 : decode cX8_read 16 = .ok (.goto 4, 3) := dk_167 0 4 (dk_at dksX8_read_0 16 rfl rfl)
theorem dX8_read_19 : decode cX8_read 19 = .ok (.iconst 0, 1) := dk_3 (dk_at dksX8_read_0 19 rfl rfl)
theorem dX8_read_20 : decode cX8_read 20 = .ok (.istore_n 2, 1) := dk_61 (dk_at dksX8_read_0 20 rfl rfl)
theorem dX8_read_21 : decode cX8_read 21 = .ok (.iconst 0, 1) := dk_3 (dk_at dksX8_read_0 21 rfl rfl)
theorem dX8_read_22 : decode cX8_read 22 = .ok (.istore_n 3, 1) := dk_62 (dk_at dksX8_read_0 22 rfl rfl)
theorem dX8_read_23 : decode cX8_read 23 = .ok (.iload_n 2, 1) := dk_28 (dk_at dksX8_read_0 23 rfl rfl)
theorem dX8_read_24 : decode cX8_read 24 = .ok (.ifCond .eq 120, 3) := dk_153 0 120 (dk_at dksX8_read_1 0 rfl rfl)
theorem dX8_read_27 : decode cX8_read 27 = .ok (.aload_n 0, 1) := dk_42 (dk_at dksX8_read_1 3 rfl rfl)
theorem dX8_read_28 : decode cX8_read 28 = .ok (.getfield 25, 3) := dk_180 0 25 (dk_at dksX8_read_1 4 rfl rfl)
theorem dX8_read_31 : decode cX8_read 31 = .ok (.iconst (-1), 1) := dk_2 (dk_at dksX8_read_1 7 rfl rfl)
theorem dX8_read_32 : decode cX8_read 32 = .ok (.if_icmp .ne 112, 3) := dk_160 0 112 (dk_at dksX8_read_1 8 rfl rfl)
theorem dX8_read_35 : decode cX8_read 35 = .ok (.aload_n 0, 1) := dk_42 (dk_at dksX8_read_1 11 rfl rfl)
theorem dX8_read_36 : decode cX8_read 36 = .ok (.invokevirtual 77, 3) := dk_182 0 77 (dk_at dksX8_read_1 12 rfl rfl)
theorem dX8_read_39 : decode cX8_read 39 = .ok (.iload_n 3, 1) := dk_29 (dk_at dksX8_read_1 15 rfl rfl)
theorem dX8_read_40 : decode cX8_read 40 = .ok (.iload_n 1, 1) := dk_27 (dk_at dksX8_read_1 16 rfl rfl)
theorem dX8_read_41 : decode cX8_read 41 = .ok (.ifCond .eq 8, 3) := dk_153 0 8 (dk_at dksX8_read_1 17 rfl rfl)
theorem dX8_read_44 : decode cX8_read 44 = .ok (.bipush 12, 2) := dk_16 12 (dk_at dksX8_read_1 20 rfl rfl)
theorem dX8_read_46 : decode cX8_read 46 = .ok (.goto 5, 3) := dk_167 0 5 (dk_at dksX8_read_2 0 rfl rfl)
theorem dX8_read_49 : decode cX8_read 49 = .ok (.bipush 14, 2) := dk_16 14 (dk_at dksX8_read_2 3 rfl rfl)
theorem dX8_read_51 : decode cX8_read 51 = .ok (.if_icmp .ne 14, 3) := dk_160 0 14 (dk_at dksX8_read_2 5 rfl rfl)
theorem dX8_read_54 : decode cX8_read 54 = .ok (.aload_n 0, 1) := dk_42 (dk_at dksX8_read_2 8 rfl rfl)
theorem dX8_read_55 : decode cX8_read 55 = .ok (.aload_n 0, 1) := dk_42 (dk_at dksX8_read_2 9 rfl rfl)
theorem dX8_read_56 : decode cX8_read 56 = .ok (.getfield 67, 3) := dk_180 0 67 (dk_at dksX8_read_2 10 rfl rfl)
theorem dX8_read_59 : decode cX8_read 59 = .ok (.invokevirtual 93, 3) := dk_182 0 93 (dk_at dksX8_read_2 13 rfl rfl)
theorem dX8_read_62 : decode cX8_read 62 = .ok (.goto 18, 3) := dk_167 0 18 (dk_at dksX8_read_2 16 rfl rfl)
theorem dX8_read_65 : decode cX8_read 65 = .ok (.iload_n 1, 1) := dk_27 (dk_at dksX8_read_2 19 rfl rfl)
theorem dX8_read_66 : decode cX8_read 66 = .ok (.ifCond .eq 10, 3) := dk_153 0 10 (dk_at dksX8_read_2 20 rfl rfl)
theorem dX8_read_69 : decode cX8_read 69 = .ok (.aload_n 0, 1) := dk_42 (dk_at dksX8_read_2 23 rfl rfl)
theorem dX8_read_70 : decode cX8_read 70 = .ok (.invokevirtual 160, 3) := dk_182 0 160 (dk_at dksX8_read_3 0 rfl rfl)
theorem dX8_read_73 : decode cX8_read 73 = .ok (.goto 7, 3) := dk_167 0 7 (dk_at dksX8_read_3 3 rfl rfl)
theorem dX8_read_76 : decode cX8_read 76 = .ok (.aload_n 0, 1) := dk_42 (dk_at dksX8_read_3 6 rfl rfl)
theorem dX8_read_77 : decode cX8_read 77 = .ok (.invokevirtual 163, 3) := dk_182 0 163 (dk_at dksX8_read_3 7 rfl rfl)
theorem dX8_read_80 : decode cX8_read 80 = .ok (.iinc 3 1, 3) := dk_132 3 1 (dk_at dksX8_read_3 10 rfl rfl)
theorem dX8_read_83 : decode cX8_read 83 = .ok (.aload_n 0, 1) := dk_42 (dk_at dksX8_read_3 13 rfl rfl)
theorem dX8_read_84 : decode cX8_read 84 = .ok (.invokevirtual 77, 3) := dk_182 0 77 (dk_at dksX8_read_3 14 rfl rfl)
theorem dX8_read_87 : decode cX8_read 87 = .ok (.aload_n 0, 1) := dk_42 (dk_at dksX8_read_3 17 rfl rfl)
theorem dX8_read_88 : decode cX8_read 88 = .ok (.getfield 25, 3) := dk_180 0 25 (dk_at dksX8_read_3 18 rfl rfl)
theorem dX8_read_91 : decode cX8_read 91 = .ok (.iconst (-1), 1) := dk_2 (dk_at dksX8_read_3 21 rfl rfl)
theorem dX8_read_92 : decode cX8_read 92 = .ok (.if_icmp .ne 14, 3) := dk_160 0 14 (dk_at dksX8_read_4 0 rfl rfl)
theorem dX8_read_95 : decode cX8_read 95 = .ok (.aload_n 0, 1) := dk_42 (dk_at dksX8_read_4 3 rfl rfl)
theorem dX8_read_96 : decode cX8_read 96 = .ok (.getfield 67, 3) := dk_180 0 67 (dk_at dksX8_read_4 4 rfl rfl)
theorem dX8_read_99 : decode cX8_read 99 = .ok (.aload_n 0, 1) := dk_42 (dk_at dksX8_read_4 7 rfl rfl)
theorem dX8_read_100 : decode cX8_read 100 = .ok (.getfield 70, 3) := dk_180 0 70 (dk_at dksX8_read_4 8 rfl rfl)
theorem dX8_read_103 : decode cX8_read 103 = .ok (.if_icmp .ne 8, 3) := dk_160 0 8 (dk_at dksX8_read_4 11 rfl rfl)
theorem dX8_read_106 : decode cX8_read 106 = .ok (.iconst 0, 1) := dk_3 (dk_at dksX8_read_4 14 rfl rfl)
theorem dX8_read_107 : decode cX8_read 107 = .ok (.istore_n 2, 1) := dk_61 (dk_at dksX8_read_4 15 rfl rfl)
theorem dX8_read_108 : decode cX8_read 108 = .ok (.goto (-85), 3) := dk_167 255 171 (dk_at dksX8_read_4 16 rfl rfl)
theorem dX8_read_111 : decode cX8_read 111 = .ok (.aload_n 0, 1) := dk_42 (dk_at dksX8_read_4 19 rfl rfl)
theorem dX8_read_112 : decode cX8_read 112 = .ok (.bipush 59, 2) := dk_16 59 (dk_at dksX8_read_4 20 rfl rfl)
theorem dX8_read_114 : decode cX8_read 114 = .ok (.invokevirtual 166, 3) := dk_182 0 166 (dk_at dksX8_read_5 0 rfl rfl)
theorem dX8_read_117 : decode cX8_read 117 = .ok (.ifCond .eq 16, 3) := dk_153 0 16 (dk_at dksX8_read_5 3 rfl rfl)
theorem dX8_read_120 : decode cX8_read 120 = .ok (.aload_n 0, 1) := dk_42 (dk_at dksX8_read_5 6 rfl rfl)
theorem dX8_read_121 : decode cX8_read 121 = .ok (.dup, 1) := dk_89 (dk_at dksX8_read_5 7 rfl rfl)
theorem dX8_read_122 : decode cX8_read 122 = .ok (.getfield 67, 3) := dk_180 0 67 (dk_at dksX8_read_5 8 rfl rfl)
theorem dX8_read_125 : decode cX8_read 125 = .ok (.iconst 1, 1) := dk_4 (dk_at dksX8_read_5 11 rfl rfl)
theorem dX8_read_126 : decode cX8_read 126 = .ok (.iadd, 1) := dk_96 (dk_at dksX8_read_5 12 rfl rfl)
theorem dX8_read_127 : decode cX8_read 127 = .ok (.putfield 67, 3) := dk_181 0 67 (dk_at dksX8_read_5 13 rfl rfl)
theorem dX8_read_130 : decode cX8_read 130 = .ok (.goto (-107), 3) := dk_167 255 149 (dk_at dksX8_read_5 16 rfl rfl)
theorem dX8_read_133 : decode cX8_read 133 = .ok (.aload_n 0, 1) := dk_42 (dk_at dksX8_read_5 19 rfl rfl)
theorem dX8_read_134 : decode cX8_read 134 = .ok (.aload_n 0, 1) := dk_42 (dk_at dksX8_read_5 20 rfl rfl)
theorem dX8_read_135 : decode cX8_read 135 = .ok (.getfield 67, 3) := dk_180 0 67 (dk_at dksX8_read_5 21 rfl rfl)
theorem dX8_read_138 : decode cX8_read 138 = .ok (.invokevirtual 93, 3) := dk_182 0 93 (dk_at dksX8_read_6 0 rfl rfl)
theorem dX8_read_141 : decode cX8_read 141 = .ok (.goto (-118), 3) := dk_167 255 138 (dk_at dksX8_read_6 3 rfl rfl)
theorem dX8_read_144 : decode cX8_read 144 = .ok (.iload_n 3, 1) := dk_29 (dk_at dksX8_read_6 6 rfl rfl)
theorem dX8_read_145 : decode cX8_read 145 = .ok (.ireturn, 1) := dk_172 (dk_at dksX8_read_6 7 rfl rfl)
abbrev cX8_skip : ByteArray := prog_21_method_20_code
def yX8_skip : MethodName := ⟨RX8, "skip", "()V"⟩
def dkwX8_skip_1 : List UInt8 := [42, 89, 180, 0, 67, 4, 96, 181, 0, 67, 167, 255, 222, 177]
abbrev dktX8_skip_1 : List UInt8 := dkwX8_skip_1 ++ []
def dkwX8_skip_0 : List UInt8 := [42, 180, 0, 67, 42, 180, 0, 70, 162, 0, 29, 42, 42, 180, 0, 67, 182, 0, 73, 16, 32, 160, 0, 16]
abbrev dktX8_skip_0 : List UInt8 := dkwX8_skip_0 ++ dktX8_skip_1
theorem dksX8_skip_0 : cX8_skip.data.toList.drop 0 = dktX8_skip_0 := by decide +kernel
theorem dksX8_skip_1 : cX8_skip.data.toList.drop 24 = dktX8_skip_1 := dk_seg dksX8_skip_0 24 rfl rfl
theorem dX8_skip_0 : decode cX8_skip 0 = .ok (.aload_n 0, 1) := dk_42 (dk_at dksX8_skip_0 0 rfl rfl)
theorem dX8_skip_1 : decode cX8_skip 1 = .ok (.getfield 67, 3) := dk_180 0 67 (dk_at dksX8_skip_0 1 rfl rfl)
theorem dX8_skip_4 : decode cX8_skip 4 = .ok (.aload_n 0, 1) := dk_42 (dk_at dksX8_skip_0 4 rfl rfl)
theorem dX8_skip_5 : decode cX8_skip 5 = .ok (.getfield 70, 3) := dk_180 0 70 (dk_at dksX8_skip_0 5 rfl rfl)
theorem dX8_skip_8 : decode cX8_skip 8 = .ok (.if_icmp .ge 29, 3) := dk_162 0 29 (dk_at dksX8_skip_0 8 rfl rfl)
theorem dX8_skip_11 : decode cX8_skip 11 = .ok (.aload_n 0, 1) := dk_42 (dk_at dksX8_skip_0 11 rfl rfl)
theorem dX8_skip_12 : decode cX8_skip 12 = .ok (.aload_n 0, 1) := dk_42 (dk_at dksX8_skip_0 12 rfl rfl)
theorem dX8_skip_13 : decode cX8_skip 13 = .ok (.getfield 67, 3) := dk_180 0 67 (dk_at dksX8_skip_0 13 rfl rfl)
theorem dX8_skip_16 : decode cX8_skip 16 = .ok (.invokevirtual 73, 3) := dk_182 0 73 (dk_at dksX8_skip_0 16 rfl rfl)
theorem dX8_skip_19 : decode cX8_skip 19 = .ok (.bipush 32, 2) := dk_16 32 (dk_at dksX8_skip_0 19 rfl rfl)
theorem dX8_skip_21 : decode cX8_skip 21 = .ok (.if_icmp .ne 16, 3) := dk_160 0 16 (dk_at dksX8_skip_0 21 rfl rfl)
theorem dX8_skip_24 : decode cX8_skip 24 = .ok (.aload_n 0, 1) := dk_42 (dk_at dksX8_skip_1 0 rfl rfl)
theorem dX8_skip_25 : decode cX8_skip 25 = .ok (.dup, 1) := dk_89 (dk_at dksX8_skip_1 1 rfl rfl)
theorem dX8_skip_26 : decode cX8_skip 26 = .ok (.getfield 67, 3) := dk_180 0 67 (dk_at dksX8_skip_1 2 rfl rfl)
theorem dX8_skip_29 : decode cX8_skip 29 = .ok (.iconst 1, 1) := dk_4 (dk_at dksX8_skip_1 5 rfl rfl)
theorem dX8_skip_30 : decode cX8_skip 30 = .ok (.iadd, 1) := dk_96 (dk_at dksX8_skip_1 6 rfl rfl)
theorem dX8_skip_31 : decode cX8_skip 31 = .ok (.putfield 67, 3) := dk_181 0 67 (dk_at dksX8_skip_1 7 rfl rfl)
theorem dX8_skip_34 : decode cX8_skip 34 = .ok (.goto (-34), 3) := dk_167 255 222 (dk_at dksX8_skip_1 10 rfl rfl)
theorem dX8_skip_37 : decode cX8_skip 37 = .ok (.return_, 1) := dk_177 (dk_at dksX8_skip_1 13 rfl rfl)
abbrev cX8_letter : ByteArray := prog_21_method_19_code
def yX8_letter : MethodName := ⟨RX8, "letter", "(I)I"⟩
def dkwX8_letter_1 : List UInt8 := [180, 0, 64, 27, 96, 46, 172]
abbrev dktX8_letter_1 : List UInt8 := dkwX8_letter_1 ++ []
def dkwX8_letter_0 : List UInt8 := [42, 180, 0, 64, 2, 160, 0, 12, 42, 180, 0, 22, 27, 46, 167, 0, 14, 42, 180, 0, 7, 42]
abbrev dktX8_letter_0 : List UInt8 := dkwX8_letter_0 ++ dktX8_letter_1
theorem dksX8_letter_0 : cX8_letter.data.toList.drop 0 = dktX8_letter_0 := by decide +kernel
theorem dksX8_letter_1 : cX8_letter.data.toList.drop 22 = dktX8_letter_1 := dk_seg dksX8_letter_0 22 rfl rfl
theorem dX8_letter_0 : decode cX8_letter 0 = .ok (.aload_n 0, 1) := dk_42 (dk_at dksX8_letter_0 0 rfl rfl)
theorem dX8_letter_1 : decode cX8_letter 1 = .ok (.getfield 64, 3) := dk_180 0 64 (dk_at dksX8_letter_0 1 rfl rfl)
theorem dX8_letter_4 : decode cX8_letter 4 = .ok (.iconst (-1), 1) := dk_2 (dk_at dksX8_letter_0 4 rfl rfl)
theorem dX8_letter_5 : decode cX8_letter 5 = .ok (.if_icmp .ne 12, 3) := dk_160 0 12 (dk_at dksX8_letter_0 5 rfl rfl)
theorem dX8_letter_8 : decode cX8_letter 8 = .ok (.aload_n 0, 1) := dk_42 (dk_at dksX8_letter_0 8 rfl rfl)
theorem dX8_letter_9 : decode cX8_letter 9 = .ok (.getfield 22, 3) := dk_180 0 22 (dk_at dksX8_letter_0 9 rfl rfl)
theorem dX8_letter_12 : decode cX8_letter 12 = .ok (.iload_n 1, 1) := dk_27 (dk_at dksX8_letter_0 12 rfl rfl)
theorem dX8_letter_13 : decode cX8_letter 13 = .ok (.iaload, 1) := dk_46 (dk_at dksX8_letter_0 13 rfl rfl)
theorem dX8_letter_14 : decode cX8_letter 14 = .ok (.goto 14, 3) := dk_167 0 14 (dk_at dksX8_letter_0 14 rfl rfl)
theorem dX8_letter_17 : decode cX8_letter 17 = .ok (.aload_n 0, 1) := dk_42 (dk_at dksX8_letter_0 17 rfl rfl)
theorem dX8_letter_18 : decode cX8_letter 18 = .ok (.getfield 7, 3) := dk_180 0 7 (dk_at dksX8_letter_0 18 rfl rfl)
theorem dX8_letter_21 : decode cX8_letter 21 = .ok (.aload_n 0, 1) := dk_42 (dk_at dksX8_letter_0 21 rfl rfl)
theorem dX8_letter_22 : decode cX8_letter 22 = .ok (.getfield 64, 3) := dk_180 0 64 (dk_at dksX8_letter_1 0 rfl rfl)
theorem dX8_letter_25 : decode cX8_letter 25 = .ok (.iload_n 1, 1) := dk_27 (dk_at dksX8_letter_1 3 rfl rfl)
theorem dX8_letter_26 : decode cX8_letter 26 = .ok (.iadd, 1) := dk_96 (dk_at dksX8_letter_1 4 rfl rfl)
theorem dX8_letter_27 : decode cX8_letter 27 = .ok (.iaload, 1) := dk_46 (dk_at dksX8_letter_1 5 rfl rfl)
theorem dX8_letter_28 : decode cX8_letter 28 = .ok (.ireturn, 1) := dk_172 (dk_at dksX8_letter_1 6 rfl rfl)
abbrev cX8_wrong : ByteArray := prog_21_method_24_code
def yX8_wrong : MethodName := ⟨RX8, "wrong", "(I)V"⟩
def dkwX8_wrong_0 : List UInt8 := [42, 180, 0, 25, 2, 160, 0, 8, 42, 27, 181, 0, 25, 177]
abbrev dktX8_wrong_0 : List UInt8 := dkwX8_wrong_0 ++ []
theorem dksX8_wrong_0 : cX8_wrong.data.toList.drop 0 = dktX8_wrong_0 := by decide +kernel
theorem dX8_wrong_0 : decode cX8_wrong 0 = .ok (.aload_n 0, 1) := dk_42 (dk_at dksX8_wrong_0 0 rfl rfl)
theorem dX8_wrong_1 : decode cX8_wrong 1 = .ok (.getfield 25, 3) := dk_180 0 25 (dk_at dksX8_wrong_0 1 rfl rfl)
theorem dX8_wrong_4 : decode cX8_wrong 4 = .ok (.iconst (-1), 1) := dk_2 (dk_at dksX8_wrong_0 4 rfl rfl)
theorem dX8_wrong_5 : decode cX8_wrong 5 = .ok (.if_icmp .ne 8, 3) := dk_160 0 8 (dk_at dksX8_wrong_0 5 rfl rfl)
theorem dX8_wrong_8 : decode cX8_wrong 8 = .ok (.aload_n 0, 1) := dk_42 (dk_at dksX8_wrong_0 8 rfl rfl)
theorem dX8_wrong_9 : decode cX8_wrong 9 = .ok (.iload_n 1, 1) := dk_27 (dk_at dksX8_wrong_0 9 rfl rfl)
theorem dX8_wrong_10 : decode cX8_wrong 10 = .ok (.putfield 25, 3) := dk_181 0 25 (dk_at dksX8_wrong_0 10 rfl rfl)
theorem dX8_wrong_13 : decode cX8_wrong 13 = .ok (.return_, 1) := dk_177 (dk_at dksX8_wrong_0 13 rfl rfl)
abbrev cX8_lawLine : ByteArray := prog_21_method_46_code
def yX8_lawLine : MethodName := ⟨RX8, "lawLine", "()V"⟩
def dkwX8_lawLine_3 : List UInt8 := [181, 0, 236, 167, 0, 8, 42, 4, 181, 0, 239, 177]
abbrev dktX8_lawLine_3 : List UInt8 := dkwX8_lawLine_3 ++ []
def dkwX8_lawLine_2 : List UInt8 := [167, 0, 4, 3, 61, 42, 180, 0, 25, 2, 160, 0, 7, 28, 154, 0, 4, 177, 27, 153, 0, 11, 42, 4]
abbrev dktX8_lawLine_2 : List UInt8 := dkwX8_lawLine_2 ++ dktX8_lawLine_3
def dkwX8_lawLine_1 : List UInt8 := [180, 0, 67, 182, 0, 93, 177, 42, 18, 234, 182, 0, 124, 153, 0, 10, 42, 182, 0, 220, 153, 0, 7, 4]
abbrev dktX8_lawLine_1 : List UInt8 := dkwX8_lawLine_1 ++ dktX8_lawLine_2
def dkwX8_lawLine_0 : List UInt8 := [42, 18, 230, 182, 0, 124, 60, 27, 154, 0, 21, 42, 18, 232, 182, 0, 124, 154, 0, 12, 42, 42]
abbrev dktX8_lawLine_0 : List UInt8 := dkwX8_lawLine_0 ++ dktX8_lawLine_1
theorem dksX8_lawLine_0 : cX8_lawLine.data.toList.drop 0 = dktX8_lawLine_0 := by decide +kernel
theorem dksX8_lawLine_1 : cX8_lawLine.data.toList.drop 22 = dktX8_lawLine_1 := dk_seg dksX8_lawLine_0 22 rfl rfl
theorem dksX8_lawLine_2 : cX8_lawLine.data.toList.drop 46 = dktX8_lawLine_2 := dk_seg dksX8_lawLine_1 24 rfl rfl
theorem dksX8_lawLine_3 : cX8_lawLine.data.toList.drop 70 = dktX8_lawLine_3 := dk_seg dksX8_lawLine_2 24 rfl rfl
theorem dX8_lawLine_0 : decode cX8_lawLine 0 = .ok (.aload_n 0, 1) := dk_42 (dk_at dksX8_lawLine_0 0 rfl rfl)
theorem dX8_lawLine_1 : decode cX8_lawLine 1 = .ok (.ldc 230, 2) := dk_18 230 (dk_at dksX8_lawLine_0 1 rfl rfl)
theorem dX8_lawLine_3 : decode cX8_lawLine 3 = .ok (.invokevirtual 124, 3) := dk_182 0 124 (dk_at dksX8_lawLine_0 3 rfl rfl)
theorem dX8_lawLine_6 : decode cX8_lawLine 6 = .ok (.istore_n 1, 1) := dk_60 (dk_at dksX8_lawLine_0 6 rfl rfl)
theorem dX8_lawLine_7 : decode cX8_lawLine 7 = .ok (.iload_n 1, 1) := dk_27 (dk_at dksX8_lawLine_0 7 rfl rfl)
theorem dX8_lawLine_8 : decode cX8_lawLine 8 = .ok (.ifCond .ne 21, 3) := dk_154 0 21 (dk_at dksX8_lawLine_0 8 rfl rfl)
theorem dX8_lawLine_11 : decode cX8_lawLine 11 = .ok (.aload_n 0, 1) := dk_42 (dk_at dksX8_lawLine_0 11 rfl rfl)
theorem dX8_lawLine_12 : decode cX8_lawLine 12 = .ok (.ldc 232, 2) := dk_18 232 (dk_at dksX8_lawLine_0 12 rfl rfl)
theorem dX8_lawLine_14 : decode cX8_lawLine 14 = .ok (.invokevirtual 124, 3) := dk_182 0 124 (dk_at dksX8_lawLine_0 14 rfl rfl)
theorem dX8_lawLine_17 : decode cX8_lawLine 17 = .ok (.ifCond .ne 12, 3) := dk_154 0 12 (dk_at dksX8_lawLine_0 17 rfl rfl)
theorem dX8_lawLine_20 : decode cX8_lawLine 20 = .ok (.aload_n 0, 1) := dk_42 (dk_at dksX8_lawLine_0 20 rfl rfl)
theorem dX8_lawLine_21 : decode cX8_lawLine 21 = .ok (.aload_n 0, 1) := dk_42 (dk_at dksX8_lawLine_0 21 rfl rfl)
theorem dX8_lawLine_22 : decode cX8_lawLine 22 = .ok (.getfield 67, 3) := dk_180 0 67 (dk_at dksX8_lawLine_1 0 rfl rfl)
theorem dX8_lawLine_25 : decode cX8_lawLine 25 = .ok (.invokevirtual 93, 3) := dk_182 0 93 (dk_at dksX8_lawLine_1 3 rfl rfl)
theorem dX8_lawLine_28 : decode cX8_lawLine 28 = .ok (.return_, 1) := dk_177 (dk_at dksX8_lawLine_1 6 rfl rfl)
theorem dX8_lawLine_29 : decode cX8_lawLine 29 = .ok (.aload_n 0, 1) := dk_42 (dk_at dksX8_lawLine_1 7 rfl rfl)
theorem dX8_lawLine_30 : decode cX8_lawLine 30 = .ok (.ldc 234, 2) := dk_18 234 (dk_at dksX8_lawLine_1 8 rfl rfl)
theorem dX8_lawLine_32 : decode cX8_lawLine 32 = .ok (.invokevirtual 124, 3) := dk_182 0 124 (dk_at dksX8_lawLine_1 10 rfl rfl)
theorem dX8_lawLine_35 : decode cX8_lawLine 35 = .ok (.ifCond .eq 10, 3) := dk_153 0 10 (dk_at dksX8_lawLine_1 13 rfl rfl)
theorem dX8_lawLine_38 : decode cX8_lawLine 38 = .ok (.aload_n 0, 1) := dk_42 (dk_at dksX8_lawLine_1 16 rfl rfl)
theorem dX8_lawLine_39 : decode cX8_lawLine 39 = .ok (.invokevirtual 220, 3) := dk_182 0 220 (dk_at dksX8_lawLine_1 17 rfl rfl)
theorem dX8_lawLine_42 : decode cX8_lawLine 42 = .ok (.ifCond .eq 7, 3) := dk_153 0 7 (dk_at dksX8_lawLine_1 20 rfl rfl)
theorem dX8_lawLine_45 : decode cX8_lawLine 45 = .ok (.iconst 1, 1) := dk_4 (dk_at dksX8_lawLine_1 23 rfl rfl)
theorem dX8_lawLine_46 : decode cX8_lawLine 46 = .ok (.goto 4, 3) := dk_167 0 4 (dk_at dksX8_lawLine_2 0 rfl rfl)
theorem dX8_lawLine_49 : decode cX8_lawLine 49 = .ok (.iconst 0, 1) := dk_3 (dk_at dksX8_lawLine_2 3 rfl rfl)
theorem dX8_lawLine_50 : decode cX8_lawLine 50 = .ok (.istore_n 2, 1) := dk_61 (dk_at dksX8_lawLine_2 4 rfl rfl)
theorem dX8_lawLine_51 : decode cX8_lawLine 51 = .ok (.aload_n 0, 1) := dk_42 (dk_at dksX8_lawLine_2 5 rfl rfl)
theorem dX8_lawLine_52 : decode cX8_lawLine 52 = .ok (.getfield 25, 3) := dk_180 0 25 (dk_at dksX8_lawLine_2 6 rfl rfl)
theorem dX8_lawLine_55 : decode cX8_lawLine 55 = .ok (.iconst (-1), 1) := dk_2 (dk_at dksX8_lawLine_2 9 rfl rfl)
theorem dX8_lawLine_56 : decode cX8_lawLine 56 = .ok (.if_icmp .ne 7, 3) := dk_160 0 7 (dk_at dksX8_lawLine_2 10 rfl rfl)
theorem dX8_lawLine_59 : decode cX8_lawLine 59 = .ok (.iload_n 2, 1) := dk_28 (dk_at dksX8_lawLine_2 13 rfl rfl)
theorem dX8_lawLine_60 : decode cX8_lawLine 60 = .ok (.ifCond .ne 4, 3) := dk_154 0 4 (dk_at dksX8_lawLine_2 14 rfl rfl)
theorem dX8_lawLine_63 : decode cX8_lawLine 63 = .ok (.return_, 1) := dk_177 (dk_at dksX8_lawLine_2 17 rfl rfl)
theorem dX8_lawLine_64 : decode cX8_lawLine 64 = .ok (.iload_n 1, 1) := dk_27 (dk_at dksX8_lawLine_2 18 rfl rfl)
theorem dX8_lawLine_65 : decode cX8_lawLine 65 = .ok (.ifCond .eq 11, 3) := dk_153 0 11 (dk_at dksX8_lawLine_2 19 rfl rfl)
theorem dX8_lawLine_68 : decode cX8_lawLine 68 = .ok (.aload_n 0, 1) := dk_42 (dk_at dksX8_lawLine_2 22 rfl rfl)
theorem dX8_lawLine_69 : decode cX8_lawLine 69 = .ok (.iconst 1, 1) := dk_4 (dk_at dksX8_lawLine_2 23 rfl rfl)
theorem dX8_lawLine_70 : decode cX8_lawLine 70 = .ok (.putfield 236, 3) := dk_181 0 236 (dk_at dksX8_lawLine_3 0 rfl rfl)
theorem dX8_lawLine_73 : decode cX8_lawLine 73 = .ok (.goto 8, 3) := dk_167 0 8 (dk_at dksX8_lawLine_3 3 rfl rfl)
theorem dX8_lawLine_76 : decode cX8_lawLine 76 = .ok (.aload_n 0, 1) := dk_42 (dk_at dksX8_lawLine_3 6 rfl rfl)
theorem dX8_lawLine_77 : decode cX8_lawLine 77 = .ok (.iconst 1, 1) := dk_4 (dk_at dksX8_lawLine_3 7 rfl rfl)
theorem dX8_lawLine_78 : decode cX8_lawLine 78 = .ok (.putfield 239, 3) := dk_181 0 239 (dk_at dksX8_lawLine_3 8 rfl rfl)
theorem dX8_lawLine_81 : decode cX8_lawLine 81 = .ok (.return_, 1) := dk_177 (dk_at dksX8_lawLine_3 11 rfl rfl)
abbrev cX8_has : ByteArray := prog_21_method_23_code
def yX8_has : MethodName := ⟨RX8, "has", "(Ljava/lang/String;)Z"⟩
def dkwX8_has_4 : List UInt8 := [4, 172]
abbrev dktX8_has_4 : List UInt8 := dkwX8_has_4 ++ []
def dkwX8_has_3 : List UInt8 := [182, 0, 73, 43, 29, 182, 0, 86, 159, 0, 5, 3, 172, 132, 3, 1, 167, 255, 225, 42, 28, 181, 0, 67]
abbrev dktX8_has_3 : List UInt8 := dkwX8_has_3 ++ dktX8_has_4
def dkwX8_has_2 : List UInt8 := [159, 0, 5, 3, 172, 3, 62, 29, 43, 182, 0, 80, 162, 0, 29, 42, 42, 180, 0, 67, 29, 96]
abbrev dktX8_has_2 : List UInt8 := dkwX8_has_2 ++ dktX8_has_3
def dkwX8_has_1 : List UInt8 := [16, 122, 184, 0, 53, 153, 0, 9, 132, 2, 1, 167, 255, 230, 28, 42, 180, 0, 67, 100, 43, 182, 0, 80]
abbrev dktX8_has_1 : List UInt8 := dkwX8_has_1 ++ dktX8_has_2
def dkwX8_has_0 : List UInt8 := [42, 182, 0, 77, 42, 180, 0, 67, 61, 28, 42, 180, 0, 70, 162, 0, 24, 42, 28, 182, 0, 73, 16, 97]
abbrev dktX8_has_0 : List UInt8 := dkwX8_has_0 ++ dktX8_has_1
theorem dksX8_has_0 : cX8_has.data.toList.drop 0 = dktX8_has_0 := by decide +kernel
theorem dksX8_has_1 : cX8_has.data.toList.drop 24 = dktX8_has_1 := dk_seg dksX8_has_0 24 rfl rfl
theorem dksX8_has_2 : cX8_has.data.toList.drop 48 = dktX8_has_2 := dk_seg dksX8_has_1 24 rfl rfl
theorem dksX8_has_3 : cX8_has.data.toList.drop 70 = dktX8_has_3 := dk_seg dksX8_has_2 22 rfl rfl
theorem dksX8_has_4 : cX8_has.data.toList.drop 94 = dktX8_has_4 := dk_seg dksX8_has_3 24 rfl rfl
theorem dX8_has_0 : decode cX8_has 0 = .ok (.aload_n 0, 1) := dk_42 (dk_at dksX8_has_0 0 rfl rfl)
theorem dX8_has_1 : decode cX8_has 1 = .ok (.invokevirtual 77, 3) := dk_182 0 77 (dk_at dksX8_has_0 1 rfl rfl)
theorem dX8_has_4 : decode cX8_has 4 = .ok (.aload_n 0, 1) := dk_42 (dk_at dksX8_has_0 4 rfl rfl)
theorem dX8_has_5 : decode cX8_has 5 = .ok (.getfield 67, 3) := dk_180 0 67 (dk_at dksX8_has_0 5 rfl rfl)
theorem dX8_has_8 : decode cX8_has 8 = .ok (.istore_n 2, 1) := dk_61 (dk_at dksX8_has_0 8 rfl rfl)
theorem dX8_has_9 : decode cX8_has 9 = .ok (.iload_n 2, 1) := dk_28 (dk_at dksX8_has_0 9 rfl rfl)
theorem dX8_has_10 : decode cX8_has 10 = .ok (.aload_n 0, 1) := dk_42 (dk_at dksX8_has_0 10 rfl rfl)
theorem dX8_has_11 : decode cX8_has 11 = .ok (.getfield 70, 3) := dk_180 0 70 (dk_at dksX8_has_0 11 rfl rfl)
theorem dX8_has_14 : decode cX8_has 14 = .ok (.if_icmp .ge 24, 3) := dk_162 0 24 (dk_at dksX8_has_0 14 rfl rfl)
theorem dX8_has_17 : decode cX8_has 17 = .ok (.aload_n 0, 1) := dk_42 (dk_at dksX8_has_0 17 rfl rfl)
theorem dX8_has_18 : decode cX8_has 18 = .ok (.iload_n 2, 1) := dk_28 (dk_at dksX8_has_0 18 rfl rfl)
theorem dX8_has_19 : decode cX8_has 19 = .ok (.invokevirtual 73, 3) := dk_182 0 73 (dk_at dksX8_has_0 19 rfl rfl)
theorem dX8_has_22 : decode cX8_has 22 = .ok (.bipush 97, 2) := dk_16 97 (dk_at dksX8_has_0 22 rfl rfl)
theorem dX8_has_24 : decode cX8_has 24 = .ok (.bipush 122, 2) := dk_16 122 (dk_at dksX8_has_1 0 rfl rfl)
theorem dX8_has_26 : decode cX8_has 26 = .ok (.invokestatic 53, 3) := dk_184 0 53 (dk_at dksX8_has_1 2 rfl rfl)
theorem dX8_has_29 : decode cX8_has 29 = .ok (.ifCond .eq 9, 3) := dk_153 0 9 (dk_at dksX8_has_1 5 rfl rfl)
theorem dX8_has_32 : decode cX8_has 32 = .ok (.iinc 2 1, 3) := dk_132 2 1 (dk_at dksX8_has_1 8 rfl rfl)
theorem dX8_has_35 : decode cX8_has 35 = .ok (.goto (-26), 3) := dk_167 255 230 (dk_at dksX8_has_1 11 rfl rfl)
theorem dX8_has_38 : decode cX8_has 38 = .ok (.iload_n 2, 1) := dk_28 (dk_at dksX8_has_1 14 rfl rfl)
theorem dX8_has_39 : decode cX8_has 39 = .ok (.aload_n 0, 1) := dk_42 (dk_at dksX8_has_1 15 rfl rfl)
theorem dX8_has_40 : decode cX8_has 40 = .ok (.getfield 67, 3) := dk_180 0 67 (dk_at dksX8_has_1 16 rfl rfl)
theorem dX8_has_43 : decode cX8_has 43 = .ok (.isub, 1) := dk_100 (dk_at dksX8_has_1 19 rfl rfl)
theorem dX8_has_44 : decode cX8_has 44 = .ok (.aload_n 1, 1) := dk_43 (dk_at dksX8_has_1 20 rfl rfl)
theorem dX8_has_45 : decode cX8_has 45 = .ok (.invokevirtual 80, 3) := dk_182 0 80 (dk_at dksX8_has_1 21 rfl rfl)
theorem dX8_has_48 : decode cX8_has 48 = .ok (.if_icmp .eq 5, 3) := dk_159 0 5 (dk_at dksX8_has_2 0 rfl rfl)
theorem dX8_has_51 : decode cX8_has 51 = .ok (.iconst 0, 1) := dk_3 (dk_at dksX8_has_2 3 rfl rfl)
theorem dX8_has_52 : decode cX8_has 52 = .ok (.ireturn, 1) := dk_172 (dk_at dksX8_has_2 4 rfl rfl)
theorem dX8_has_53 : decode cX8_has 53 = .ok (.iconst 0, 1) := dk_3 (dk_at dksX8_has_2 5 rfl rfl)
theorem dX8_has_54 : decode cX8_has 54 = .ok (.istore_n 3, 1) := dk_62 (dk_at dksX8_has_2 6 rfl rfl)
theorem dX8_has_55 : decode cX8_has 55 = .ok (.iload_n 3, 1) := dk_29 (dk_at dksX8_has_2 7 rfl rfl)
theorem dX8_has_56 : decode cX8_has 56 = .ok (.aload_n 1, 1) := dk_43 (dk_at dksX8_has_2 8 rfl rfl)
theorem dX8_has_57 : decode cX8_has 57 = .ok (.invokevirtual 80, 3) := dk_182 0 80 (dk_at dksX8_has_2 9 rfl rfl)
theorem dX8_has_60 : decode cX8_has 60 = .ok (.if_icmp .ge 29, 3) := dk_162 0 29 (dk_at dksX8_has_2 12 rfl rfl)
theorem dX8_has_63 : decode cX8_has 63 = .ok (.aload_n 0, 1) := dk_42 (dk_at dksX8_has_2 15 rfl rfl)
theorem dX8_has_64 : decode cX8_has 64 = .ok (.aload_n 0, 1) := dk_42 (dk_at dksX8_has_2 16 rfl rfl)
theorem dX8_has_65 : decode cX8_has 65 = .ok (.getfield 67, 3) := dk_180 0 67 (dk_at dksX8_has_2 17 rfl rfl)
theorem dX8_has_68 : decode cX8_has 68 = .ok (.iload_n 3, 1) := dk_29 (dk_at dksX8_has_2 20 rfl rfl)
theorem dX8_has_69 : decode cX8_has 69 = .ok (.iadd, 1) := dk_96 (dk_at dksX8_has_2 21 rfl rfl)
theorem dX8_has_70 : decode cX8_has 70 = .ok (.invokevirtual 73, 3) := dk_182 0 73 (dk_at dksX8_has_3 0 rfl rfl)
theorem dX8_has_73 : decode cX8_has 73 = .ok (.aload_n 1, 1) := dk_43 (dk_at dksX8_has_3 3 rfl rfl)
theorem dX8_has_74 : decode cX8_has 74 = .ok (.iload_n 3, 1) := dk_29 (dk_at dksX8_has_3 4 rfl rfl)
theorem dX8_has_75 : decode cX8_has 75 = .ok (.invokevirtual 86, 3) := dk_182 0 86 (dk_at dksX8_has_3 5 rfl rfl)
theorem dX8_has_78 : decode cX8_has 78 = .ok (.if_icmp .eq 5, 3) := dk_159 0 5 (dk_at dksX8_has_3 8 rfl rfl)
theorem dX8_has_81 : decode cX8_has 81 = .ok (.iconst 0, 1) := dk_3 (dk_at dksX8_has_3 11 rfl rfl)
theorem dX8_has_82 : decode cX8_has 82 = .ok (.ireturn, 1) := dk_172 (dk_at dksX8_has_3 12 rfl rfl)
theorem dX8_has_83 : decode cX8_has 83 = .ok (.iinc 3 1, 3) := dk_132 3 1 (dk_at dksX8_has_3 13 rfl rfl)
theorem dX8_has_86 : decode cX8_has 86 = .ok (.goto (-31), 3) := dk_167 255 225 (dk_at dksX8_has_3 16 rfl rfl)
theorem dX8_has_89 : decode cX8_has 89 = .ok (.aload_n 0, 1) := dk_42 (dk_at dksX8_has_3 19 rfl rfl)
theorem dX8_has_90 : decode cX8_has 90 = .ok (.iload_n 2, 1) := dk_28 (dk_at dksX8_has_3 20 rfl rfl)
theorem dX8_has_91 : decode cX8_has 91 = .ok (.putfield 67, 3) := dk_181 0 67 (dk_at dksX8_has_3 21 rfl rfl)
theorem dX8_has_94 : decode cX8_has 94 = .ok (.iconst 1, 1) := dk_4 (dk_at dksX8_has_4 0 rfl rfl)
theorem dX8_has_95 : decode cX8_has 95 = .ok (.ireturn, 1) := dk_172 (dk_at dksX8_has_4 1 rfl rfl)
abbrev cX8_some : ByteArray := prog_21_method_45_code
def yX8_some : MethodName := ⟨RX8, "some", "()Z"⟩
def dkwX8_some_1 : List UInt8 := [182, 0, 225, 61, 27, 154, 0, 7, 28, 153, 0, 7, 4, 167, 0, 4, 3, 60, 167, 255, 220, 27, 172]
abbrev dktX8_some_1 : List UInt8 := dkwX8_some_1 ++ []
def dkwX8_some_0 : List UInt8 := [42, 182, 0, 225, 60, 42, 180, 0, 25, 2, 160, 0, 34, 42, 18, 228, 182, 0, 124, 153, 0, 25, 42]
abbrev dktX8_some_0 : List UInt8 := dkwX8_some_0 ++ dktX8_some_1
theorem dksX8_some_0 : cX8_some.data.toList.drop 0 = dktX8_some_0 := by decide +kernel
theorem dksX8_some_1 : cX8_some.data.toList.drop 23 = dktX8_some_1 := dk_seg dksX8_some_0 23 rfl rfl
theorem dX8_some_0 : decode cX8_some 0 = .ok (.aload_n 0, 1) := dk_42 (dk_at dksX8_some_0 0 rfl rfl)
theorem dX8_some_1 : decode cX8_some 1 = .ok (.invokevirtual 225, 3) := dk_182 0 225 (dk_at dksX8_some_0 1 rfl rfl)
theorem dX8_some_4 : decode cX8_some 4 = .ok (.istore_n 1, 1) := dk_60 (dk_at dksX8_some_0 4 rfl rfl)
theorem dX8_some_5 : decode cX8_some 5 = .ok (.aload_n 0, 1) := dk_42 (dk_at dksX8_some_0 5 rfl rfl)
theorem dX8_some_6 : decode cX8_some 6 = .ok (.getfield 25, 3) := dk_180 0 25 (dk_at dksX8_some_0 6 rfl rfl)
theorem dX8_some_9 : decode cX8_some 9 = .ok (.iconst (-1), 1) := dk_2 (dk_at dksX8_some_0 9 rfl rfl)
theorem dX8_some_10 : decode cX8_some 10 = .ok (.if_icmp .ne 34, 3) := dk_160 0 34 (dk_at dksX8_some_0 10 rfl rfl)
theorem dX8_some_13 : decode cX8_some 13 = .ok (.aload_n 0, 1) := dk_42 (dk_at dksX8_some_0 13 rfl rfl)
theorem dX8_some_14 : decode cX8_some 14 = .ok (.ldc 228, 2) := dk_18 228 (dk_at dksX8_some_0 14 rfl rfl)
theorem dX8_some_16 : decode cX8_some 16 = .ok (.invokevirtual 124, 3) := dk_182 0 124 (dk_at dksX8_some_0 16 rfl rfl)
theorem dX8_some_19 : decode cX8_some 19 = .ok (.ifCond .eq 25, 3) := dk_153 0 25 (dk_at dksX8_some_0 19 rfl rfl)
theorem dX8_some_22 : decode cX8_some 22 = .ok (.aload_n 0, 1) := dk_42 (dk_at dksX8_some_0 22 rfl rfl)
theorem dX8_some_23 : decode cX8_some 23 = .ok (.invokevirtual 225, 3) := dk_182 0 225 (dk_at dksX8_some_1 0 rfl rfl)
theorem dX8_some_26 : decode cX8_some 26 = .ok (.istore_n 2, 1) := dk_61 (dk_at dksX8_some_1 3 rfl rfl)
theorem dX8_some_27 : decode cX8_some 27 = .ok (.iload_n 1, 1) := dk_27 (dk_at dksX8_some_1 4 rfl rfl)
theorem dX8_some_28 : decode cX8_some 28 = .ok (.ifCond .ne 7, 3) := dk_154 0 7 (dk_at dksX8_some_1 5 rfl rfl)
theorem dX8_some_31 : decode cX8_some 31 = .ok (.iload_n 2, 1) := dk_28 (dk_at dksX8_some_1 8 rfl rfl)
theorem dX8_some_32 : decode cX8_some 32 = .ok (.ifCond .eq 7, 3) := dk_153 0 7 (dk_at dksX8_some_1 9 rfl rfl)
theorem dX8_some_35 : decode cX8_some 35 = .ok (.iconst 1, 1) := dk_4 (dk_at dksX8_some_1 12 rfl rfl)
theorem dX8_some_36 : decode cX8_some 36 = .ok (.goto 4, 3) := dk_167 0 4 (dk_at dksX8_some_1 13 rfl rfl)
theorem dX8_some_39 : decode cX8_some 39 = .ok (.iconst 0, 1) := dk_3 (dk_at dksX8_some_1 16 rfl rfl)
theorem dX8_some_40 : decode cX8_some 40 = .ok (.istore_n 1, 1) := dk_60 (dk_at dksX8_some_1 17 rfl rfl)
theorem dX8_some_41 : decode cX8_some 41 = .ok (.goto (-36), 3) := dk_167 255 220 (dk_at dksX8_some_1 18 rfl rfl)
theorem dX8_some_44 : decode cX8_some 44 = .ok (.iload_n 1, 1) := dk_27 (dk_at dksX8_some_1 21 rfl rfl)
theorem dX8_some_45 : decode cX8_some 45 = .ok (.ireturn, 1) := dk_172 (dk_at dksX8_some_1 22 rfl rfl)
abbrev cX8_every : ByteArray := prog_21_method_44_code
def yX8_every : MethodName := ⟨RX8, "every", "()Z"⟩
def dkwX8_every_1 : List UInt8 := [182, 0, 217, 61, 27, 153, 0, 11, 28, 153, 0, 7, 4, 167, 0, 4, 3, 60, 167, 255, 220, 27, 172]
abbrev dktX8_every_1 : List UInt8 := dkwX8_every_1 ++ []
def dkwX8_every_0 : List UInt8 := [42, 182, 0, 217, 60, 42, 180, 0, 25, 2, 160, 0, 34, 42, 18, 223, 182, 0, 124, 153, 0, 25, 42]
abbrev dktX8_every_0 : List UInt8 := dkwX8_every_0 ++ dktX8_every_1
theorem dksX8_every_0 : cX8_every.data.toList.drop 0 = dktX8_every_0 := by decide +kernel
theorem dksX8_every_1 : cX8_every.data.toList.drop 23 = dktX8_every_1 := dk_seg dksX8_every_0 23 rfl rfl
theorem dX8_every_0 : decode cX8_every 0 = .ok (.aload_n 0, 1) := dk_42 (dk_at dksX8_every_0 0 rfl rfl)
theorem dX8_every_1 : decode cX8_every 1 = .ok (.invokevirtual 217, 3) := dk_182 0 217 (dk_at dksX8_every_0 1 rfl rfl)
theorem dX8_every_4 : decode cX8_every 4 = .ok (.istore_n 1, 1) := dk_60 (dk_at dksX8_every_0 4 rfl rfl)
theorem dX8_every_5 : decode cX8_every 5 = .ok (.aload_n 0, 1) := dk_42 (dk_at dksX8_every_0 5 rfl rfl)
theorem dX8_every_6 : decode cX8_every 6 = .ok (.getfield 25, 3) := dk_180 0 25 (dk_at dksX8_every_0 6 rfl rfl)
theorem dX8_every_9 : decode cX8_every 9 = .ok (.iconst (-1), 1) := dk_2 (dk_at dksX8_every_0 9 rfl rfl)
theorem dX8_every_10 : decode cX8_every 10 = .ok (.if_icmp .ne 34, 3) := dk_160 0 34 (dk_at dksX8_every_0 10 rfl rfl)
theorem dX8_every_13 : decode cX8_every 13 = .ok (.aload_n 0, 1) := dk_42 (dk_at dksX8_every_0 13 rfl rfl)
theorem dX8_every_14 : decode cX8_every 14 = .ok (.ldc 223, 2) := dk_18 223 (dk_at dksX8_every_0 14 rfl rfl)
theorem dX8_every_16 : decode cX8_every 16 = .ok (.invokevirtual 124, 3) := dk_182 0 124 (dk_at dksX8_every_0 16 rfl rfl)
theorem dX8_every_19 : decode cX8_every 19 = .ok (.ifCond .eq 25, 3) := dk_153 0 25 (dk_at dksX8_every_0 19 rfl rfl)
theorem dX8_every_22 : decode cX8_every 22 = .ok (.aload_n 0, 1) := dk_42 (dk_at dksX8_every_0 22 rfl rfl)
theorem dX8_every_23 : decode cX8_every 23 = .ok (.invokevirtual 217, 3) := dk_182 0 217 (dk_at dksX8_every_1 0 rfl rfl)
theorem dX8_every_26 : decode cX8_every 26 = .ok (.istore_n 2, 1) := dk_61 (dk_at dksX8_every_1 3 rfl rfl)
theorem dX8_every_27 : decode cX8_every 27 = .ok (.iload_n 1, 1) := dk_27 (dk_at dksX8_every_1 4 rfl rfl)
theorem dX8_every_28 : decode cX8_every 28 = .ok (.ifCond .eq 11, 3) := dk_153 0 11 (dk_at dksX8_every_1 5 rfl rfl)
theorem dX8_every_31 : decode cX8_every 31 = .ok (.iload_n 2, 1) := dk_28 (dk_at dksX8_every_1 8 rfl rfl)
theorem dX8_every_32 : decode cX8_every 32 = .ok (.ifCond .eq 7, 3) := dk_153 0 7 (dk_at dksX8_every_1 9 rfl rfl)
theorem dX8_every_35 : decode cX8_every 35 = .ok (.iconst 1, 1) := dk_4 (dk_at dksX8_every_1 12 rfl rfl)
theorem dX8_every_36 : decode cX8_every 36 = .ok (.goto 4, 3) := dk_167 0 4 (dk_at dksX8_every_1 13 rfl rfl)
theorem dX8_every_39 : decode cX8_every 39 = .ok (.iconst 0, 1) := dk_3 (dk_at dksX8_every_1 16 rfl rfl)
theorem dX8_every_40 : decode cX8_every 40 = .ok (.istore_n 1, 1) := dk_60 (dk_at dksX8_every_1 17 rfl rfl)
theorem dX8_every_41 : decode cX8_every 41 = .ok (.goto (-36), 3) := dk_167 255 220 (dk_at dksX8_every_1 18 rfl rfl)
theorem dX8_every_44 : decode cX8_every 44 = .ok (.iload_n 1, 1) := dk_27 (dk_at dksX8_every_1 21 rfl rfl)
theorem dX8_every_45 : decode cX8_every 45 = .ok (.ireturn, 1) := dk_172 (dk_at dksX8_every_1 22 rfl rfl)
abbrev cX8_atom : ByteArray := prog_21_method_43_code
def yX8_atom : MethodName := ⟨RX8, "atom", "()Z"⟩
def dkwX8_atom_6 : List UInt8 := [180, 0, 157, 4, 100, 181, 0, 157, 29, 172]
abbrev dktX8_atom_6 : List UInt8 := dkwX8_atom_6 ++ []
def dkwX8_atom_5 : List UInt8 := [154, 0, 11, 42, 42, 180, 0, 67, 182, 0, 93, 42, 89, 180, 0, 67, 4, 96, 181, 0, 67, 42, 89]
abbrev dktX8_atom_5 : List UInt8 := dkwX8_atom_5 ++ dktX8_atom_6
def dkwX8_atom_4 : List UInt8 := [4, 96, 181, 0, 67, 42, 182, 0, 220, 62, 42, 180, 0, 25, 2, 160, 0, 20, 42, 16, 41, 182, 0, 166]
abbrev dktX8_atom_4 : List UInt8 := dkwX8_atom_4 ++ dktX8_atom_5
def dkwX8_atom_3 : List UInt8 := [153, 0, 19, 42, 182, 0, 217, 154, 0, 7, 4, 167, 0, 4, 3, 62, 167, 0, 53, 42, 89, 180, 0, 67]
abbrev dktX8_atom_3 : List UInt8 := dkwX8_atom_3 ++ dktX8_atom_4
def dkwX8_atom_2 : List UInt8 := [160, 0, 10, 42, 27, 182, 0, 93, 3, 172, 42, 89, 180, 0, 157, 4, 96, 181, 0, 157, 3, 62, 28]
abbrev dktX8_atom_2 : List UInt8 := dkwX8_atom_2 ++ dktX8_atom_3
def dkwX8_atom_1 : List UInt8 := [154, 0, 17, 42, 16, 40, 182, 0, 166, 154, 0, 8, 42, 182, 0, 214, 172, 42, 180, 0, 157, 16, 6]
abbrev dktX8_atom_1 : List UInt8 := dkwX8_atom_1 ++ dktX8_atom_2
def dkwX8_atom_0 : List UInt8 := [42, 180, 0, 25, 2, 159, 0, 5, 3, 172, 42, 182, 0, 90, 60, 42, 18, 212, 182, 0, 124, 61, 28]
abbrev dktX8_atom_0 : List UInt8 := dkwX8_atom_0 ++ dktX8_atom_1
theorem dksX8_atom_0 : cX8_atom.data.toList.drop 0 = dktX8_atom_0 := by decide +kernel
theorem dksX8_atom_1 : cX8_atom.data.toList.drop 23 = dktX8_atom_1 := dk_seg dksX8_atom_0 23 rfl rfl
theorem dksX8_atom_2 : cX8_atom.data.toList.drop 46 = dktX8_atom_2 := dk_seg dksX8_atom_1 23 rfl rfl
theorem dksX8_atom_3 : cX8_atom.data.toList.drop 69 = dktX8_atom_3 := dk_seg dksX8_atom_2 23 rfl rfl
theorem dksX8_atom_4 : cX8_atom.data.toList.drop 93 = dktX8_atom_4 := dk_seg dksX8_atom_3 24 rfl rfl
theorem dksX8_atom_5 : cX8_atom.data.toList.drop 117 = dktX8_atom_5 := dk_seg dksX8_atom_4 24 rfl rfl
theorem dksX8_atom_6 : cX8_atom.data.toList.drop 140 = dktX8_atom_6 := dk_seg dksX8_atom_5 23 rfl rfl
theorem dX8_atom_0 : decode cX8_atom 0 = .ok (.aload_n 0, 1) := dk_42 (dk_at dksX8_atom_0 0 rfl rfl)
theorem dX8_atom_1 : decode cX8_atom 1 = .ok (.getfield 25, 3) := dk_180 0 25 (dk_at dksX8_atom_0 1 rfl rfl)
theorem dX8_atom_4 : decode cX8_atom 4 = .ok (.iconst (-1), 1) := dk_2 (dk_at dksX8_atom_0 4 rfl rfl)
theorem dX8_atom_5 : decode cX8_atom 5 = .ok (.if_icmp .eq 5, 3) := dk_159 0 5 (dk_at dksX8_atom_0 5 rfl rfl)
theorem dX8_atom_8 : decode cX8_atom 8 = .ok (.iconst 0, 1) := dk_3 (dk_at dksX8_atom_0 8 rfl rfl)
theorem dX8_atom_9 : decode cX8_atom 9 = .ok (.ireturn, 1) := dk_172 (dk_at dksX8_atom_0 9 rfl rfl)
theorem dX8_atom_10 : decode cX8_atom 10 = .ok (.aload_n 0, 1) := dk_42 (dk_at dksX8_atom_0 10 rfl rfl)
theorem dX8_atom_11 : decode cX8_atom 11 = .ok (.invokevirtual 90, 3) := dk_182 0 90 (dk_at dksX8_atom_0 11 rfl rfl)
theorem dX8_atom_14 : decode cX8_atom 14 = .ok (.istore_n 1, 1) := dk_60 (dk_at dksX8_atom_0 14 rfl rfl)
theorem dX8_atom_15 : decode cX8_atom 15 = .ok (.aload_n 0, 1) := dk_42 (dk_at dksX8_atom_0 15 rfl rfl)
theorem dX8_atom_16 : decode cX8_atom 16 = .ok (.ldc 212, 2) := dk_18 212 (dk_at dksX8_atom_0 16 rfl rfl)
theorem dX8_atom_18 : decode cX8_atom 18 = .ok (.invokevirtual 124, 3) := dk_182 0 124 (dk_at dksX8_atom_0 18 rfl rfl)
theorem dX8_atom_21 : decode cX8_atom 21 = .ok (.istore_n 2, 1) := dk_61 (dk_at dksX8_atom_0 21 rfl rfl)
theorem dX8_atom_22 : decode cX8_atom 22 = .ok (.iload_n 2, 1) := dk_28 (dk_at dksX8_atom_0 22 rfl rfl)
theorem dX8_atom_23 : decode cX8_atom 23 = .ok (.ifCond .ne 17, 3) := dk_154 0 17 (dk_at dksX8_atom_1 0 rfl rfl)
theorem dX8_atom_26 : decode cX8_atom 26 = .ok (.aload_n 0, 1) := dk_42 (dk_at dksX8_atom_1 3 rfl rfl)
theorem dX8_atom_27 : decode cX8_atom 27 = .ok (.bipush 40, 2) := dk_16 40 (dk_at dksX8_atom_1 4 rfl rfl)
theorem dX8_atom_29 : decode cX8_atom 29 = .ok (.invokevirtual 166, 3) := dk_182 0 166 (dk_at dksX8_atom_1 6 rfl rfl)
theorem dX8_atom_32 : decode cX8_atom 32 = .ok (.ifCond .ne 8, 3) := dk_154 0 8 (dk_at dksX8_atom_1 9 rfl rfl)
theorem dX8_atom_35 : decode cX8_atom 35 = .ok (.aload_n 0, 1) := dk_42 (dk_at dksX8_atom_1 12 rfl rfl)
theorem dX8_atom_36 : decode cX8_atom 36 = .ok (.invokevirtual 214, 3) := dk_182 0 214 (dk_at dksX8_atom_1 13 rfl rfl)
theorem dX8_atom_39 : decode cX8_atom 39 = .ok (.ireturn, 1) := dk_172 (dk_at dksX8_atom_1 16 rfl rfl)
theorem dX8_atom_40 : decode cX8_atom 40 = .ok (.aload_n 0, 1) := dk_42 (dk_at dksX8_atom_1 17 rfl rfl)
theorem dX8_atom_41 : decode cX8_atom 41 = .ok (.getfield 157, 3) := dk_180 0 157 (dk_at dksX8_atom_1 18 rfl rfl)
theorem dX8_atom_44 : decode cX8_atom 44 = .ok (.bipush 6, 2) := dk_16 6 (dk_at dksX8_atom_1 21 rfl rfl)
theorem dX8_atom_46 : decode cX8_atom 46 = .ok (.if_icmp .ne 10, 3) := dk_160 0 10 (dk_at dksX8_atom_2 0 rfl rfl)
theorem dX8_atom_49 : decode cX8_atom 49 = .ok (.aload_n 0, 1) := dk_42 (dk_at dksX8_atom_2 3 rfl rfl)
theorem dX8_atom_50 : decode cX8_atom 50 = .ok (.iload_n 1, 1) := dk_27 (dk_at dksX8_atom_2 4 rfl rfl)
theorem dX8_atom_51 : decode cX8_atom 51 = .ok (.invokevirtual 93, 3) := dk_182 0 93 (dk_at dksX8_atom_2 5 rfl rfl)
theorem dX8_atom_54 : decode cX8_atom 54 = .ok (.iconst 0, 1) := dk_3 (dk_at dksX8_atom_2 8 rfl rfl)
theorem dX8_atom_55 : decode cX8_atom 55 = .ok (.ireturn, 1) := dk_172 (dk_at dksX8_atom_2 9 rfl rfl)
theorem dX8_atom_56 : decode cX8_atom 56 = .ok (.aload_n 0, 1) := dk_42 (dk_at dksX8_atom_2 10 rfl rfl)
theorem dX8_atom_57 : decode cX8_atom 57 = .ok (.dup, 1) := dk_89 (dk_at dksX8_atom_2 11 rfl rfl)
theorem dX8_atom_58 : decode cX8_atom 58 = .ok (.getfield 157, 3) := dk_180 0 157 (dk_at dksX8_atom_2 12 rfl rfl)
theorem dX8_atom_61 : decode cX8_atom 61 = .ok (.iconst 1, 1) := dk_4 (dk_at dksX8_atom_2 15 rfl rfl)
theorem dX8_atom_62 : decode cX8_atom 62 = .ok (.iadd, 1) := dk_96 (dk_at dksX8_atom_2 16 rfl rfl)
theorem dX8_atom_63 : decode cX8_atom 63 = .ok (.putfield 157, 3) := dk_181 0 157 (dk_at dksX8_atom_2 17 rfl rfl)
theorem dX8_atom_66 : decode cX8_atom 66 = .ok (.iconst 0, 1) := dk_3 (dk_at dksX8_atom_2 20 rfl rfl)
theorem dX8_atom_67 : decode cX8_atom 67 = .ok (.istore_n 3, 1) := dk_62 (dk_at dksX8_atom_2 21 rfl rfl)
theorem dX8_atom_68 : decode cX8_atom 68 = .ok (.iload_n 2, 1) := dk_28 (dk_at dksX8_atom_2 22 rfl rfl)
theorem dX8_atom_69 : decode cX8_atom 69 = .ok (.ifCond .eq 19, 3) := dk_153 0 19 (dk_at dksX8_atom_3 0 rfl rfl)
theorem dX8_atom_72 : decode cX8_atom 72 = .ok (.aload_n 0, 1) := dk_42 (dk_at dksX8_atom_3 3 rfl rfl)
theorem dX8_atom_73 : decode cX8_atom 73 = .ok (.invokevirtual 217, 3) := dk_182 0 217 (dk_at dksX8_atom_3 4 rfl rfl)
theorem dX8_atom_76 : decode cX8_atom 76 = .ok (.ifCond .ne 7, 3) := dk_154 0 7 (dk_at dksX8_atom_3 7 rfl rfl)
theorem dX8_atom_79 : decode cX8_atom 79 = .ok (.iconst 1, 1) := dk_4 (dk_at dksX8_atom_3 10 rfl rfl)
theorem dX8_atom_80 : decode cX8_atom 80 = .ok (.goto 4, 3) := dk_167 0 4 (dk_at dksX8_atom_3 11 rfl rfl)
theorem dX8_atom_83 : decode cX8_atom 83 = .ok (.iconst 0, 1) := dk_3 (dk_at dksX8_atom_3 14 rfl rfl)
theorem dX8_atom_84 : decode cX8_atom 84 = .ok (.istore_n 3, 1) := dk_62 (dk_at dksX8_atom_3 15 rfl rfl)
theorem dX8_atom_85 : decode cX8_atom 85 = .ok (.goto 53, 3) := dk_167 0 53 (dk_at dksX8_atom_3 16 rfl rfl)
theorem dX8_atom_88 : decode cX8_atom 88 = .ok (.aload_n 0, 1) := dk_42 (dk_at dksX8_atom_3 19 rfl rfl)
theorem dX8_atom_89 : decode cX8_atom 89 = .ok (.dup, 1) := dk_89 (dk_at dksX8_atom_3 20 rfl rfl)
theorem dX8_atom_90 : decode cX8_atom 90 = .ok (.getfield 67, 3) := dk_180 0 67 (dk_at dksX8_atom_3 21 rfl rfl)
theorem dX8_atom_93 : decode cX8_atom 93 = .ok (.iconst 1, 1) := dk_4 (dk_at dksX8_atom_4 0 rfl rfl)
theorem dX8_atom_94 : decode cX8_atom 94 = .ok (.iadd, 1) := dk_96 (dk_at dksX8_atom_4 1 rfl rfl)
theorem dX8_atom_95 : decode cX8_atom 95 = .ok (.putfield 67, 3) := dk_181 0 67 (dk_at dksX8_atom_4 2 rfl rfl)
theorem dX8_atom_98 : decode cX8_atom 98 = .ok (.aload_n 0, 1) := dk_42 (dk_at dksX8_atom_4 5 rfl rfl)
theorem dX8_atom_99 : decode cX8_atom 99 = .ok (.invokevirtual 220, 3) := dk_182 0 220 (dk_at dksX8_atom_4 6 rfl rfl)
theorem dX8_atom_102 : decode cX8_atom 102 = .ok (.istore_n 3, 1) := dk_62 (dk_at dksX8_atom_4 9 rfl rfl)
theorem dX8_atom_103 : decode cX8_atom 103 = .ok (.aload_n 0, 1) := dk_42 (dk_at dksX8_atom_4 10 rfl rfl)
theorem dX8_atom_104 : decode cX8_atom 104 = .ok (.getfield 25, 3) := dk_180 0 25 (dk_at dksX8_atom_4 11 rfl rfl)
theorem dX8_atom_107 : decode cX8_atom 107 = .ok (.iconst (-1), 1) := dk_2 (dk_at dksX8_atom_4 14 rfl rfl)
theorem dX8_atom_108 : decode cX8_atom 108 = .ok (.if_icmp .ne 20, 3) := dk_160 0 20 (dk_at dksX8_atom_4 15 rfl rfl)
theorem dX8_atom_111 : decode cX8_atom 111 = .ok (.aload_n 0, 1) := dk_42 (dk_at dksX8_atom_4 18 rfl rfl)
theorem dX8_atom_112 : decode cX8_atom 112 = .ok (.bipush 41, 2) := dk_16 41 (dk_at dksX8_atom_4 19 rfl rfl)
theorem dX8_atom_114 : decode cX8_atom 114 = .ok (.invokevirtual 166, 3) := dk_182 0 166 (dk_at dksX8_atom_4 21 rfl rfl)
theorem dX8_atom_117 : decode cX8_atom 117 = .ok (.ifCond .ne 11, 3) := dk_154 0 11 (dk_at dksX8_atom_5 0 rfl rfl)
theorem dX8_atom_120 : decode cX8_atom 120 = .ok (.aload_n 0, 1) := dk_42 (dk_at dksX8_atom_5 3 rfl rfl)
theorem dX8_atom_121 : decode cX8_atom 121 = .ok (.aload_n 0, 1) := dk_42 (dk_at dksX8_atom_5 4 rfl rfl)
theorem dX8_atom_122 : decode cX8_atom 122 = .ok (.getfield 67, 3) := dk_180 0 67 (dk_at dksX8_atom_5 5 rfl rfl)
theorem dX8_atom_125 : decode cX8_atom 125 = .ok (.invokevirtual 93, 3) := dk_182 0 93 (dk_at dksX8_atom_5 8 rfl rfl)
theorem dX8_atom_128 : decode cX8_atom 128 = .ok (.aload_n 0, 1) := dk_42 (dk_at dksX8_atom_5 11 rfl rfl)
theorem dX8_atom_129 : decode cX8_atom 129 = .ok (.dup, 1) := dk_89 (dk_at dksX8_atom_5 12 rfl rfl)
theorem dX8_atom_130 : decode cX8_atom 130 = .ok (.getfield 67, 3) := dk_180 0 67 (dk_at dksX8_atom_5 13 rfl rfl)
theorem dX8_atom_133 : decode cX8_atom 133 = .ok (.iconst 1, 1) := dk_4 (dk_at dksX8_atom_5 16 rfl rfl)
theorem dX8_atom_134 : decode cX8_atom 134 = .ok (.iadd, 1) := dk_96 (dk_at dksX8_atom_5 17 rfl rfl)
theorem dX8_atom_135 : decode cX8_atom 135 = .ok (.putfield 67, 3) := dk_181 0 67 (dk_at dksX8_atom_5 18 rfl rfl)
theorem dX8_atom_138 : decode cX8_atom 138 = .ok (.aload_n 0, 1) := dk_42 (dk_at dksX8_atom_5 21 rfl rfl)
theorem dX8_atom_139 : decode cX8_atom 139 = .ok (.dup, 1) := dk_89 (dk_at dksX8_atom_5 22 rfl rfl)
theorem dX8_atom_140 : decode cX8_atom 140 = .ok (.getfield 157, 3) := dk_180 0 157 (dk_at dksX8_atom_6 0 rfl rfl)
theorem dX8_atom_143 : decode cX8_atom 143 = .ok (.iconst 1, 1) := dk_4 (dk_at dksX8_atom_6 3 rfl rfl)
theorem dX8_atom_144 : decode cX8_atom 144 = .ok (.isub, 1) := dk_100 (dk_at dksX8_atom_6 4 rfl rfl)
theorem dX8_atom_145 : decode cX8_atom 145 = .ok (.putfield 157, 3) := dk_181 0 157 (dk_at dksX8_atom_6 5 rfl rfl)
theorem dX8_atom_148 : decode cX8_atom 148 = .ok (.iload_n 3, 1) := dk_29 (dk_at dksX8_atom_6 8 rfl rfl)
theorem dX8_atom_149 : decode cX8_atom 149 = .ok (.ireturn, 1) := dk_172 (dk_at dksX8_atom_6 9 rfl rfl)
abbrev cX8_place : ByteArray := prog_21_method_25_code
def yX8_place : MethodName := ⟨RX8, "place", "()I"⟩
def dkwX8_place_0 : List UInt8 := [42, 182, 0, 77, 42, 180, 0, 67, 172]
abbrev dktX8_place_0 : List UInt8 := dkwX8_place_0 ++ []
theorem dksX8_place_0 : cX8_place.data.toList.drop 0 = dktX8_place_0 := by decide +kernel
theorem dX8_place_0 : decode cX8_place 0 = .ok (.aload_n 0, 1) := dk_42 (dk_at dksX8_place_0 0 rfl rfl)
theorem dX8_place_1 : decode cX8_place 1 = .ok (.invokevirtual 77, 3) := dk_182 0 77 (dk_at dksX8_place_0 1 rfl rfl)
theorem dX8_place_4 : decode cX8_place 4 = .ok (.aload_n 0, 1) := dk_42 (dk_at dksX8_place_0 4 rfl rfl)
theorem dX8_place_5 : decode cX8_place 5 = .ok (.getfield 67, 3) := dk_180 0 67 (dk_at dksX8_place_0 5 rfl rfl)
theorem dX8_place_8 : decode cX8_place 8 = .ok (.ireturn, 1) := dk_172 (dk_at dksX8_place_0 8 rfl rfl)
abbrev cX8_isSign : ByteArray := prog_21_method_21_code
def yX8_isSign : MethodName := ⟨RX8, "isSign", "(I)Z"⟩
def dkwX8_isSign_1 : List UInt8 := [160, 0, 7, 4, 167, 0, 4, 3, 172]
abbrev dktX8_isSign_1 : List UInt8 := dkwX8_isSign_1 ++ []
def dkwX8_isSign_0 : List UInt8 := [42, 182, 0, 77, 42, 180, 0, 67, 42, 180, 0, 70, 162, 0, 19, 42, 42, 180, 0, 67, 182, 0, 73, 27]
abbrev dktX8_isSign_0 : List UInt8 := dkwX8_isSign_0 ++ dktX8_isSign_1
theorem dksX8_isSign_0 : cX8_isSign.data.toList.drop 0 = dktX8_isSign_0 := by decide +kernel
theorem dksX8_isSign_1 : cX8_isSign.data.toList.drop 24 = dktX8_isSign_1 := dk_seg dksX8_isSign_0 24 rfl rfl
theorem dX8_isSign_0 : decode cX8_isSign 0 = .ok (.aload_n 0, 1) := dk_42 (dk_at dksX8_isSign_0 0 rfl rfl)
theorem dX8_isSign_1 : decode cX8_isSign 1 = .ok (.invokevirtual 77, 3) := dk_182 0 77 (dk_at dksX8_isSign_0 1 rfl rfl)
theorem dX8_isSign_4 : decode cX8_isSign 4 = .ok (.aload_n 0, 1) := dk_42 (dk_at dksX8_isSign_0 4 rfl rfl)
theorem dX8_isSign_5 : decode cX8_isSign 5 = .ok (.getfield 67, 3) := dk_180 0 67 (dk_at dksX8_isSign_0 5 rfl rfl)
theorem dX8_isSign_8 : decode cX8_isSign 8 = .ok (.aload_n 0, 1) := dk_42 (dk_at dksX8_isSign_0 8 rfl rfl)
theorem dX8_isSign_9 : decode cX8_isSign 9 = .ok (.getfield 70, 3) := dk_180 0 70 (dk_at dksX8_isSign_0 9 rfl rfl)
theorem dX8_isSign_12 : decode cX8_isSign 12 = .ok (.if_icmp .ge 19, 3) := dk_162 0 19 (dk_at dksX8_isSign_0 12 rfl rfl)
theorem dX8_isSign_15 : decode cX8_isSign 15 = .ok (.aload_n 0, 1) := dk_42 (dk_at dksX8_isSign_0 15 rfl rfl)
theorem dX8_isSign_16 : decode cX8_isSign 16 = .ok (.aload_n 0, 1) := dk_42 (dk_at dksX8_isSign_0 16 rfl rfl)
theorem dX8_isSign_17 : decode cX8_isSign 17 = .ok (.getfield 67, 3) := dk_180 0 67 (dk_at dksX8_isSign_0 17 rfl rfl)
theorem dX8_isSign_20 : decode cX8_isSign 20 = .ok (.invokevirtual 73, 3) := dk_182 0 73 (dk_at dksX8_isSign_0 20 rfl rfl)
theorem dX8_isSign_23 : decode cX8_isSign 23 = .ok (.iload_n 1, 1) := dk_27 (dk_at dksX8_isSign_0 23 rfl rfl)
theorem dX8_isSign_24 : decode cX8_isSign 24 = .ok (.if_icmp .ne 7, 3) := dk_160 0 7 (dk_at dksX8_isSign_1 0 rfl rfl)
theorem dX8_isSign_27 : decode cX8_isSign 27 = .ok (.iconst 1, 1) := dk_4 (dk_at dksX8_isSign_1 3 rfl rfl)
theorem dX8_isSign_28 : decode cX8_isSign 28 = .ok (.goto 4, 3) := dk_167 0 4 (dk_at dksX8_isSign_1 4 rfl rfl)
theorem dX8_isSign_31 : decode cX8_isSign 31 = .ok (.iconst 0, 1) := dk_3 (dk_at dksX8_isSign_1 7 rfl rfl)
theorem dX8_isSign_32 : decode cX8_isSign 32 = .ok (.ireturn, 1) := dk_172 (dk_at dksX8_isSign_1 8 rfl rfl)
abbrev cX8_plain : ByteArray := prog_21_method_42_code
def yX8_plain : MethodName := ⟨RX8, "plain", "()Z"⟩
def dkwX8_plain_4 : List UInt8 := [27, 29, 162, 0, 7, 4, 167, 0, 17, 3, 167, 0, 13, 27, 29, 164, 0, 7, 4, 167, 0, 4, 3, 172]
abbrev dktX8_plain_4 : List UInt8 := dkwX8_plain_4 ++ []
def dkwX8_plain_3 : List UInt8 := [182, 0, 93, 3, 172, 42, 89, 180, 0, 67, 4, 96, 181, 0, 67, 42, 182, 0, 209, 62, 28, 153, 0, 16]
abbrev dktX8_plain_3 : List UInt8 := dkwX8_plain_3 ++ dktX8_plain_4
def dkwX8_plain_2 : List UInt8 := [182, 0, 166, 61, 28, 154, 0, 22, 42, 16, 62, 182, 0, 166, 154, 0, 13, 42, 42, 180, 0, 67]
abbrev dktX8_plain_2 : List UInt8 := dkwX8_plain_2 ++ dktX8_plain_3
def dkwX8_plain_1 : List UInt8 := [180, 0, 206, 172, 42, 182, 0, 209, 60, 42, 180, 0, 25, 2, 159, 0, 5, 3, 172, 42, 16, 60]
abbrev dktX8_plain_1 : List UInt8 := dkwX8_plain_1 ++ dktX8_plain_2
def dkwX8_plain_0 : List UInt8 := [42, 18, 200, 182, 0, 124, 153, 0, 8, 42, 180, 0, 202, 172, 42, 18, 135, 182, 0, 124, 153, 0, 8, 42]
abbrev dktX8_plain_0 : List UInt8 := dkwX8_plain_0 ++ dktX8_plain_1
theorem dksX8_plain_0 : cX8_plain.data.toList.drop 0 = dktX8_plain_0 := by decide +kernel
theorem dksX8_plain_1 : cX8_plain.data.toList.drop 24 = dktX8_plain_1 := dk_seg dksX8_plain_0 24 rfl rfl
theorem dksX8_plain_2 : cX8_plain.data.toList.drop 46 = dktX8_plain_2 := dk_seg dksX8_plain_1 22 rfl rfl
theorem dksX8_plain_3 : cX8_plain.data.toList.drop 68 = dktX8_plain_3 := dk_seg dksX8_plain_2 22 rfl rfl
theorem dksX8_plain_4 : cX8_plain.data.toList.drop 92 = dktX8_plain_4 := dk_seg dksX8_plain_3 24 rfl rfl
theorem dX8_plain_0 : decode cX8_plain 0 = .ok (.aload_n 0, 1) := dk_42 (dk_at dksX8_plain_0 0 rfl rfl)
theorem dX8_plain_1 : decode cX8_plain 1 = .ok (.ldc 200, 2) := dk_18 200 (dk_at dksX8_plain_0 1 rfl rfl)
theorem dX8_plain_3 : decode cX8_plain 3 = .ok (.invokevirtual 124, 3) := dk_182 0 124 (dk_at dksX8_plain_0 3 rfl rfl)
theorem dX8_plain_6 : decode cX8_plain 6 = .ok (.ifCond .eq 8, 3) := dk_153 0 8 (dk_at dksX8_plain_0 6 rfl rfl)
theorem dX8_plain_9 : decode cX8_plain 9 = .ok (.aload_n 0, 1) := dk_42 (dk_at dksX8_plain_0 9 rfl rfl)
theorem dX8_plain_10 : decode cX8_plain 10 = .ok (.getfield 202, 3) := dk_180 0 202 (dk_at dksX8_plain_0 10 rfl rfl)
theorem dX8_plain_13 : decode cX8_plain 13 = .ok (.ireturn, 1) := dk_172 (dk_at dksX8_plain_0 13 rfl rfl)
theorem dX8_plain_14 : decode cX8_plain 14 = .ok (.aload_n 0, 1) := dk_42 (dk_at dksX8_plain_0 14 rfl rfl)
theorem dX8_plain_15 : decode cX8_plain 15 = .ok (.ldc 135, 2) := dk_18 135 (dk_at dksX8_plain_0 15 rfl rfl)
theorem dX8_plain_17 : decode cX8_plain 17 = .ok (.invokevirtual 124, 3) := dk_182 0 124 (dk_at dksX8_plain_0 17 rfl rfl)
theorem dX8_plain_20 : decode cX8_plain 20 = .ok (.ifCond .eq 8, 3) := dk_153 0 8 (dk_at dksX8_plain_0 20 rfl rfl)
theorem dX8_plain_23 : decode cX8_plain 23 = .ok (.aload_n 0, 1) := dk_42 (dk_at dksX8_plain_0 23 rfl rfl)
theorem dX8_plain_24 : decode cX8_plain 24 = .ok (.getfield 206, 3) := dk_180 0 206 (dk_at dksX8_plain_1 0 rfl rfl)
theorem dX8_plain_27 : decode cX8_plain 27 = .ok (.ireturn, 1) := dk_172 (dk_at dksX8_plain_1 3 rfl rfl)
theorem dX8_plain_28 : decode cX8_plain 28 = .ok (.aload_n 0, 1) := dk_42 (dk_at dksX8_plain_1 4 rfl rfl)
theorem dX8_plain_29 : decode cX8_plain 29 = .ok (.invokevirtual 209, 3) := dk_182 0 209 (dk_at dksX8_plain_1 5 rfl rfl)
theorem dX8_plain_32 : decode cX8_plain 32 = .ok (.istore_n 1, 1) := dk_60 (dk_at dksX8_plain_1 8 rfl rfl)
theorem dX8_plain_33 : decode cX8_plain 33 = .ok (.aload_n 0, 1) := dk_42 (dk_at dksX8_plain_1 9 rfl rfl)
theorem dX8_plain_34 : decode cX8_plain 34 = .ok (.getfield 25, 3) := dk_180 0 25 (dk_at dksX8_plain_1 10 rfl rfl)
theorem dX8_plain_37 : decode cX8_plain 37 = .ok (.iconst (-1), 1) := dk_2 (dk_at dksX8_plain_1 13 rfl rfl)
theorem dX8_plain_38 : decode cX8_plain 38 = .ok (.if_icmp .eq 5, 3) := dk_159 0 5 (dk_at dksX8_plain_1 14 rfl rfl)
theorem dX8_plain_41 : decode cX8_plain 41 = .ok (.iconst 0, 1) := dk_3 (dk_at dksX8_plain_1 17 rfl rfl)
theorem dX8_plain_42 : decode cX8_plain 42 = .ok (.ireturn, 1) := dk_172 (dk_at dksX8_plain_1 18 rfl rfl)
theorem dX8_plain_43 : decode cX8_plain 43 = .ok (.aload_n 0, 1) := dk_42 (dk_at dksX8_plain_1 19 rfl rfl)
theorem dX8_plain_44 : decode cX8_plain 44 = .ok (.bipush 60, 2) := dk_16 60 (dk_at dksX8_plain_1 20 rfl rfl)
theorem dX8_plain_46 : decode cX8_plain 46 = .ok (.invokevirtual 166, 3) := dk_182 0 166 (dk_at dksX8_plain_2 0 rfl rfl)
theorem dX8_plain_49 : decode cX8_plain 49 = .ok (.istore_n 2, 1) := dk_61 (dk_at dksX8_plain_2 3 rfl rfl)
theorem dX8_plain_50 : decode cX8_plain 50 = .ok (.iload_n 2, 1) := dk_28 (dk_at dksX8_plain_2 4 rfl rfl)
theorem dX8_plain_51 : decode cX8_plain 51 = .ok (.ifCond .ne 22, 3) := dk_154 0 22 (dk_at dksX8_plain_2 5 rfl rfl)
theorem dX8_plain_54 : decode cX8_plain 54 = .ok (.aload_n 0, 1) := dk_42 (dk_at dksX8_plain_2 8 rfl rfl)
theorem dX8_plain_55 : decode cX8_plain 55 = .ok (.bipush 62, 2) := dk_16 62 (dk_at dksX8_plain_2 9 rfl rfl)
theorem dX8_plain_57 : decode cX8_plain 57 = .ok (.invokevirtual 166, 3) := dk_182 0 166 (dk_at dksX8_plain_2 11 rfl rfl)
theorem dX8_plain_60 : decode cX8_plain 60 = .ok (.ifCond .ne 13, 3) := dk_154 0 13 (dk_at dksX8_plain_2 14 rfl rfl)
theorem dX8_plain_63 : decode cX8_plain 63 = .ok (.aload_n 0, 1) := dk_42 (dk_at dksX8_plain_2 17 rfl rfl)
theorem dX8_plain_64 : decode cX8_plain 64 = .ok (.aload_n 0, 1) := dk_42 (dk_at dksX8_plain_2 18 rfl rfl)
theorem dX8_plain_65 : decode cX8_plain 65 = .ok (.getfield 67, 3) := dk_180 0 67 (dk_at dksX8_plain_2 19 rfl rfl)
theorem dX8_plain_68 : decode cX8_plain 68 = .ok (.invokevirtual 93, 3) := dk_182 0 93 (dk_at dksX8_plain_3 0 rfl rfl)
theorem dX8_plain_71 : decode cX8_plain 71 = .ok (.iconst 0, 1) := dk_3 (dk_at dksX8_plain_3 3 rfl rfl)
theorem dX8_plain_72 : decode cX8_plain 72 = .ok (.ireturn, 1) := dk_172 (dk_at dksX8_plain_3 4 rfl rfl)
theorem dX8_plain_73 : decode cX8_plain 73 = .ok (.aload_n 0, 1) := dk_42 (dk_at dksX8_plain_3 5 rfl rfl)
theorem dX8_plain_74 : decode cX8_plain 74 = .ok (.dup, 1) := dk_89 (dk_at dksX8_plain_3 6 rfl rfl)
theorem dX8_plain_75 : decode cX8_plain 75 = .ok (.getfield 67, 3) := dk_180 0 67 (dk_at dksX8_plain_3 7 rfl rfl)
theorem dX8_plain_78 : decode cX8_plain 78 = .ok (.iconst 1, 1) := dk_4 (dk_at dksX8_plain_3 10 rfl rfl)
theorem dX8_plain_79 : decode cX8_plain 79 = .ok (.iadd, 1) := dk_96 (dk_at dksX8_plain_3 11 rfl rfl)
theorem dX8_plain_80 : decode cX8_plain 80 = .ok (.putfield 67, 3) := dk_181 0 67 (dk_at dksX8_plain_3 12 rfl rfl)
theorem dX8_plain_83 : decode cX8_plain 83 = .ok (.aload_n 0, 1) := dk_42 (dk_at dksX8_plain_3 15 rfl rfl)
theorem dX8_plain_84 : decode cX8_plain 84 = .ok (.invokevirtual 209, 3) := dk_182 0 209 (dk_at dksX8_plain_3 16 rfl rfl)
theorem dX8_plain_87 : decode cX8_plain 87 = .ok (.istore_n 3, 1) := dk_62 (dk_at dksX8_plain_3 19 rfl rfl)
theorem dX8_plain_88 : decode cX8_plain 88 = .ok (.iload_n 2, 1) := dk_28 (dk_at dksX8_plain_3 20 rfl rfl)
theorem dX8_plain_89 : decode cX8_plain 89 = .ok (.ifCond .eq 16, 3) := dk_153 0 16 (dk_at dksX8_plain_3 21 rfl rfl)
theorem dX8_plain_92 : decode cX8_plain 92 = .ok (.iload_n 1, 1) := dk_27 (dk_at dksX8_plain_4 0 rfl rfl)
theorem dX8_plain_93 : decode cX8_plain 93 = .ok (.iload_n 3, 1) := dk_29 (dk_at dksX8_plain_4 1 rfl rfl)
theorem dX8_plain_94 : decode cX8_plain 94 = .ok (.if_icmp .ge 7, 3) := dk_162 0 7 (dk_at dksX8_plain_4 2 rfl rfl)
theorem dX8_plain_97 : decode cX8_plain 97 = .ok (.iconst 1, 1) := dk_4 (dk_at dksX8_plain_4 5 rfl rfl)
theorem dX8_plain_98 : decode cX8_plain 98 = .ok (.goto 17, 3) := dk_167 0 17 (dk_at dksX8_plain_4 6 rfl rfl)
theorem dX8_plain_101 : decode cX8_plain 101 = .ok (.iconst 0, 1) := dk_3 (dk_at dksX8_plain_4 9 rfl rfl)
theorem dX8_plain_102 : decode cX8_plain 102 = .ok (.goto 13, 3) := dk_167 0 13 (dk_at dksX8_plain_4 10 rfl rfl)
theorem dX8_plain_105 : decode cX8_plain 105 = .ok (.iload_n 1, 1) := dk_27 (dk_at dksX8_plain_4 13 rfl rfl)
theorem dX8_plain_106 : decode cX8_plain 106 = .ok (.iload_n 3, 1) := dk_29 (dk_at dksX8_plain_4 14 rfl rfl)
theorem dX8_plain_107 : decode cX8_plain 107 = .ok (.if_icmp .le 7, 3) := dk_164 0 7 (dk_at dksX8_plain_4 15 rfl rfl)
theorem dX8_plain_110 : decode cX8_plain 110 = .ok (.iconst 1, 1) := dk_4 (dk_at dksX8_plain_4 18 rfl rfl)
theorem dX8_plain_111 : decode cX8_plain 111 = .ok (.goto 4, 3) := dk_167 0 4 (dk_at dksX8_plain_4 19 rfl rfl)
theorem dX8_plain_114 : decode cX8_plain 114 = .ok (.iconst 0, 1) := dk_3 (dk_at dksX8_plain_4 22 rfl rfl)
theorem dX8_plain_115 : decode cX8_plain 115 = .ok (.ireturn, 1) := dk_172 (dk_at dksX8_plain_4 23 rfl rfl)
abbrev cX8_sum : ByteArray := prog_21_method_41_code
def yX8_sum : MethodName := ⟨RX8, "sum", "()I"⟩
def dkwX8_sum_1 : List UInt8 := [180, 0, 67, 4, 96, 181, 0, 67, 27, 42, 182, 0, 197, 96, 60, 167, 255, 222, 27, 172]
abbrev dktX8_sum_1 : List UInt8 := dkwX8_sum_1 ++ []
def dkwX8_sum_0 : List UInt8 := [42, 182, 0, 197, 60, 42, 180, 0, 25, 2, 160, 0, 32, 42, 16, 43, 182, 0, 166, 153, 0, 23, 42, 89]
abbrev dktX8_sum_0 : List UInt8 := dkwX8_sum_0 ++ dktX8_sum_1
theorem dksX8_sum_0 : cX8_sum.data.toList.drop 0 = dktX8_sum_0 := by decide +kernel
theorem dksX8_sum_1 : cX8_sum.data.toList.drop 24 = dktX8_sum_1 := dk_seg dksX8_sum_0 24 rfl rfl
theorem dX8_sum_0 : decode cX8_sum 0 = .ok (.aload_n 0, 1) := dk_42 (dk_at dksX8_sum_0 0 rfl rfl)
theorem dX8_sum_1 : decode cX8_sum 1 = .ok (.invokevirtual 197, 3) := dk_182 0 197 (dk_at dksX8_sum_0 1 rfl rfl)
theorem dX8_sum_4 : decode cX8_sum 4 = .ok (.istore_n 1, 1) := dk_60 (dk_at dksX8_sum_0 4 rfl rfl)
theorem dX8_sum_5 : decode cX8_sum 5 = .ok (.aload_n 0, 1) := dk_42 (dk_at dksX8_sum_0 5 rfl rfl)
theorem dX8_sum_6 : decode cX8_sum 6 = .ok (.getfield 25, 3) := dk_180 0 25 (dk_at dksX8_sum_0 6 rfl rfl)
theorem dX8_sum_9 : decode cX8_sum 9 = .ok (.iconst (-1), 1) := dk_2 (dk_at dksX8_sum_0 9 rfl rfl)
theorem dX8_sum_10 : decode cX8_sum 10 = .ok (.if_icmp .ne 32, 3) := dk_160 0 32 (dk_at dksX8_sum_0 10 rfl rfl)
theorem dX8_sum_13 : decode cX8_sum 13 = .ok (.aload_n 0, 1) := dk_42 (dk_at dksX8_sum_0 13 rfl rfl)
theorem dX8_sum_14 : decode cX8_sum 14 = .ok (.bipush 43, 2) := dk_16 43 (dk_at dksX8_sum_0 14 rfl rfl)
theorem dX8_sum_16 : decode cX8_sum 16 = .ok (.invokevirtual 166, 3) := dk_182 0 166 (dk_at dksX8_sum_0 16 rfl rfl)
theorem dX8_sum_19 : decode cX8_sum 19 = .ok (.ifCond .eq 23, 3) := dk_153 0 23 (dk_at dksX8_sum_0 19 rfl rfl)
theorem dX8_sum_22 : decode cX8_sum 22 = .ok (.aload_n 0, 1) := dk_42 (dk_at dksX8_sum_0 22 rfl rfl)
theorem dX8_sum_23 : decode cX8_sum 23 = .ok (.dup, 1) := dk_89 (dk_at dksX8_sum_0 23 rfl rfl)
theorem dX8_sum_24 : decode cX8_sum 24 = .ok (.getfield 67, 3) := dk_180 0 67 (dk_at dksX8_sum_1 0 rfl rfl)
theorem dX8_sum_27 : decode cX8_sum 27 = .ok (.iconst 1, 1) := dk_4 (dk_at dksX8_sum_1 3 rfl rfl)
theorem dX8_sum_28 : decode cX8_sum 28 = .ok (.iadd, 1) := dk_96 (dk_at dksX8_sum_1 4 rfl rfl)
theorem dX8_sum_29 : decode cX8_sum 29 = .ok (.putfield 67, 3) := dk_181 0 67 (dk_at dksX8_sum_1 5 rfl rfl)
theorem dX8_sum_32 : decode cX8_sum 32 = .ok (.iload_n 1, 1) := dk_27 (dk_at dksX8_sum_1 8 rfl rfl)
theorem dX8_sum_33 : decode cX8_sum 33 = .ok (.aload_n 0, 1) := dk_42 (dk_at dksX8_sum_1 9 rfl rfl)
theorem dX8_sum_34 : decode cX8_sum 34 = .ok (.invokevirtual 197, 3) := dk_182 0 197 (dk_at dksX8_sum_1 10 rfl rfl)
theorem dX8_sum_37 : decode cX8_sum 37 = .ok (.iadd, 1) := dk_96 (dk_at dksX8_sum_1 13 rfl rfl)
theorem dX8_sum_38 : decode cX8_sum 38 = .ok (.istore_n 1, 1) := dk_60 (dk_at dksX8_sum_1 14 rfl rfl)
theorem dX8_sum_39 : decode cX8_sum 39 = .ok (.goto (-34), 3) := dk_167 255 222 (dk_at dksX8_sum_1 15 rfl rfl)
theorem dX8_sum_42 : decode cX8_sum 42 = .ok (.iload_n 1, 1) := dk_27 (dk_at dksX8_sum_1 18 rfl rfl)
theorem dX8_sum_43 : decode cX8_sum 43 = .ok (.ireturn, 1) := dk_172 (dk_at dksX8_sum_1 19 rfl rfl)
abbrev cX8_part : ByteArray := prog_21_method_40_code
def yX8_part : MethodName := ⟨RX8, "part", "()I"⟩
def dkwX8_part_6 : List UInt8 := [42, 180, 0, 67, 182, 0, 93, 3, 172, 42, 180, 0, 29, 27, 46, 172]
abbrev dktX8_part_6 : List UInt8 := dkwX8_part_6 ++ []
def dkwX8_part_5 : List UInt8 := [167, 0, 17, 42, 18, 195, 182, 0, 124, 153, 0, 7, 8, 167, 0, 4, 2, 60, 27, 2, 160, 0, 13, 42]
abbrev dktX8_part_5 : List UInt8 := dkwX8_part_5 ++ dktX8_part_6
def dkwX8_part_4 : List UInt8 := [18, 191, 182, 0, 124, 153, 0, 7, 6, 167, 0, 30, 42, 18, 193, 182, 0, 124, 153, 0, 7, 7]
abbrev dktX8_part_4 : List UInt8 := dkwX8_part_4 ++ dktX8_part_5
def dkwX8_part_3 : List UInt8 := [182, 0, 124, 153, 0, 7, 4, 167, 0, 56, 42, 18, 189, 182, 0, 124, 153, 0, 7, 5, 167, 0, 43, 42]
abbrev dktX8_part_3 : List UInt8 := dkwX8_part_3 ++ dktX8_part_4
def dkwX8_part_2 : List UInt8 := [17, 3, 231, 182, 0, 104, 172, 42, 18, 185, 182, 0, 124, 153, 0, 7, 3, 167, 0, 69, 42, 18, 187]
abbrev dktX8_part_2 : List UInt8 := dkwX8_part_2 ++ dktX8_part_3
def dkwX8_part_1 : List UInt8 := [162, 0, 30, 42, 42, 180, 0, 67, 182, 0, 73, 16, 48, 16, 57, 184, 0, 53, 153, 0, 12, 42, 3]
abbrev dktX8_part_1 : List UInt8 := dkwX8_part_1 ++ dktX8_part_2
def dkwX8_part_0 : List UInt8 := [42, 180, 0, 25, 2, 159, 0, 5, 3, 172, 42, 182, 0, 77, 42, 180, 0, 67, 42, 180, 0, 70]
abbrev dktX8_part_0 : List UInt8 := dkwX8_part_0 ++ dktX8_part_1
theorem dksX8_part_0 : cX8_part.data.toList.drop 0 = dktX8_part_0 := by decide +kernel
theorem dksX8_part_1 : cX8_part.data.toList.drop 22 = dktX8_part_1 := dk_seg dksX8_part_0 22 rfl rfl
theorem dksX8_part_2 : cX8_part.data.toList.drop 45 = dktX8_part_2 := dk_seg dksX8_part_1 23 rfl rfl
theorem dksX8_part_3 : cX8_part.data.toList.drop 68 = dktX8_part_3 := dk_seg dksX8_part_2 23 rfl rfl
theorem dksX8_part_4 : cX8_part.data.toList.drop 92 = dktX8_part_4 := dk_seg dksX8_part_3 24 rfl rfl
theorem dksX8_part_5 : cX8_part.data.toList.drop 114 = dktX8_part_5 := dk_seg dksX8_part_4 22 rfl rfl
theorem dksX8_part_6 : cX8_part.data.toList.drop 138 = dktX8_part_6 := dk_seg dksX8_part_5 24 rfl rfl
theorem dX8_part_0 : decode cX8_part 0 = .ok (.aload_n 0, 1) := dk_42 (dk_at dksX8_part_0 0 rfl rfl)
theorem dX8_part_1 : decode cX8_part 1 = .ok (.getfield 25, 3) := dk_180 0 25 (dk_at dksX8_part_0 1 rfl rfl)
theorem dX8_part_4 : decode cX8_part 4 = .ok (.iconst (-1), 1) := dk_2 (dk_at dksX8_part_0 4 rfl rfl)
theorem dX8_part_5 : decode cX8_part 5 = .ok (.if_icmp .eq 5, 3) := dk_159 0 5 (dk_at dksX8_part_0 5 rfl rfl)
theorem dX8_part_8 : decode cX8_part 8 = .ok (.iconst 0, 1) := dk_3 (dk_at dksX8_part_0 8 rfl rfl)
theorem dX8_part_9 : decode cX8_part 9 = .ok (.ireturn, 1) := dk_172 (dk_at dksX8_part_0 9 rfl rfl)
theorem dX8_part_10 : decode cX8_part 10 = .ok (.aload_n 0, 1) := dk_42 (dk_at dksX8_part_0 10 rfl rfl)
theorem dX8_part_11 : decode cX8_part 11 = .ok (.invokevirtual 77, 3) := dk_182 0 77 (dk_at dksX8_part_0 11 rfl rfl)
theorem dX8_part_14 : decode cX8_part 14 = .ok (.aload_n 0, 1) := dk_42 (dk_at dksX8_part_0 14 rfl rfl)
theorem dX8_part_15 : decode cX8_part 15 = .ok (.getfield 67, 3) := dk_180 0 67 (dk_at dksX8_part_0 15 rfl rfl)
theorem dX8_part_18 : decode cX8_part 18 = .ok (.aload_n 0, 1) := dk_42 (dk_at dksX8_part_0 18 rfl rfl)
theorem dX8_part_19 : decode cX8_part 19 = .ok (.getfield 70, 3) := dk_180 0 70 (dk_at dksX8_part_0 19 rfl rfl)
theorem dX8_part_22 : decode cX8_part 22 = .ok (.if_icmp .ge 30, 3) := dk_162 0 30 (dk_at dksX8_part_1 0 rfl rfl)
theorem dX8_part_25 : decode cX8_part 25 = .ok (.aload_n 0, 1) := dk_42 (dk_at dksX8_part_1 3 rfl rfl)
theorem dX8_part_26 : decode cX8_part 26 = .ok (.aload_n 0, 1) := dk_42 (dk_at dksX8_part_1 4 rfl rfl)
theorem dX8_part_27 : decode cX8_part 27 = .ok (.getfield 67, 3) := dk_180 0 67 (dk_at dksX8_part_1 5 rfl rfl)
theorem dX8_part_30 : decode cX8_part 30 = .ok (.invokevirtual 73, 3) := dk_182 0 73 (dk_at dksX8_part_1 8 rfl rfl)
theorem dX8_part_33 : decode cX8_part 33 = .ok (.bipush 48, 2) := dk_16 48 (dk_at dksX8_part_1 11 rfl rfl)
theorem dX8_part_35 : decode cX8_part 35 = .ok (.bipush 57, 2) := dk_16 57 (dk_at dksX8_part_1 13 rfl rfl)
theorem dX8_part_37 : decode cX8_part 37 = .ok (.invokestatic 53, 3) := dk_184 0 53 (dk_at dksX8_part_1 15 rfl rfl)
theorem dX8_part_40 : decode cX8_part 40 = .ok (.ifCond .eq 12, 3) := dk_153 0 12 (dk_at dksX8_part_1 18 rfl rfl)
theorem dX8_part_43 : decode cX8_part 43 = .ok (.aload_n 0, 1) := dk_42 (dk_at dksX8_part_1 21 rfl rfl)
theorem dX8_part_44 : decode cX8_part 44 = .ok (.iconst 0, 1) := dk_3 (dk_at dksX8_part_1 22 rfl rfl)
theorem dX8_part_45 : decode cX8_part 45 = .ok (.sipush 999, 3) := dk_17 3 231 (dk_at dksX8_part_2 0 rfl rfl)
theorem dX8_part_48 : decode cX8_part 48 = .ok (.invokevirtual 104, 3) := dk_182 0 104 (dk_at dksX8_part_2 3 rfl rfl)
theorem dX8_part_51 : decode cX8_part 51 = .ok (.ireturn, 1) := dk_172 (dk_at dksX8_part_2 6 rfl rfl)
theorem dX8_part_52 : decode cX8_part 52 = .ok (.aload_n 0, 1) := dk_42 (dk_at dksX8_part_2 7 rfl rfl)
theorem dX8_part_53 : decode cX8_part 53 = .ok (.ldc 185, 2) := dk_18 185 (dk_at dksX8_part_2 8 rfl rfl)
theorem dX8_part_55 : decode cX8_part 55 = .ok (.invokevirtual 124, 3) := dk_182 0 124 (dk_at dksX8_part_2 10 rfl rfl)
theorem dX8_part_58 : decode cX8_part 58 = .ok (.ifCond .eq 7, 3) := dk_153 0 7 (dk_at dksX8_part_2 13 rfl rfl)
theorem dX8_part_61 : decode cX8_part 61 = .ok (.iconst 0, 1) := dk_3 (dk_at dksX8_part_2 16 rfl rfl)
theorem dX8_part_62 : decode cX8_part 62 = .ok (.goto 69, 3) := dk_167 0 69 (dk_at dksX8_part_2 17 rfl rfl)
theorem dX8_part_65 : decode cX8_part 65 = .ok (.aload_n 0, 1) := dk_42 (dk_at dksX8_part_2 20 rfl rfl)
theorem dX8_part_66 : decode cX8_part 66 = .ok (.ldc 187, 2) := dk_18 187 (dk_at dksX8_part_2 21 rfl rfl)
theorem dX8_part_68 : decode cX8_part 68 = .ok (.invokevirtual 124, 3) := dk_182 0 124 (dk_at dksX8_part_3 0 rfl rfl)
theorem dX8_part_71 : decode cX8_part 71 = .ok (.ifCond .eq 7, 3) := dk_153 0 7 (dk_at dksX8_part_3 3 rfl rfl)
theorem dX8_part_74 : decode cX8_part 74 = .ok (.iconst 1, 1) := dk_4 (dk_at dksX8_part_3 6 rfl rfl)
theorem dX8_part_75 : decode cX8_part 75 = .ok (.goto 56, 3) := dk_167 0 56 (dk_at dksX8_part_3 7 rfl rfl)
theorem dX8_part_78 : decode cX8_part 78 = .ok (.aload_n 0, 1) := dk_42 (dk_at dksX8_part_3 10 rfl rfl)
theorem dX8_part_79 : decode cX8_part 79 = .ok (.ldc 189, 2) := dk_18 189 (dk_at dksX8_part_3 11 rfl rfl)
theorem dX8_part_81 : decode cX8_part 81 = .ok (.invokevirtual 124, 3) := dk_182 0 124 (dk_at dksX8_part_3 13 rfl rfl)
theorem dX8_part_84 : decode cX8_part 84 = .ok (.ifCond .eq 7, 3) := dk_153 0 7 (dk_at dksX8_part_3 16 rfl rfl)
theorem dX8_part_87 : decode cX8_part 87 = .ok (.iconst 2, 1) := dk_5 (dk_at dksX8_part_3 19 rfl rfl)
theorem dX8_part_88 : decode cX8_part 88 = .ok (.goto 43, 3) := dk_167 0 43 (dk_at dksX8_part_3 20 rfl rfl)
theorem dX8_part_91 : decode cX8_part 91 = .ok (.aload_n 0, 1) := dk_42 (dk_at dksX8_part_3 23 rfl rfl)
theorem dX8_part_92 : decode cX8_part 92 = .ok (.ldc 191, 2) := dk_18 191 (dk_at dksX8_part_4 0 rfl rfl)
theorem dX8_part_94 : decode cX8_part 94 = .ok (.invokevirtual 124, 3) := dk_182 0 124 (dk_at dksX8_part_4 2 rfl rfl)
theorem dX8_part_97 : decode cX8_part 97 = .ok (.ifCond .eq 7, 3) := dk_153 0 7 (dk_at dksX8_part_4 5 rfl rfl)
theorem dX8_part_100 : decode cX8_part 100 = .ok (.iconst 3, 1) := dk_6 (dk_at dksX8_part_4 8 rfl rfl)
theorem dX8_part_101 : decode cX8_part 101 = .ok (.goto 30, 3) := dk_167 0 30 (dk_at dksX8_part_4 9 rfl rfl)
theorem dX8_part_104 : decode cX8_part 104 = .ok (.aload_n 0, 1) := dk_42 (dk_at dksX8_part_4 12 rfl rfl)
theorem dX8_part_105 : decode cX8_part 105 = .ok (.ldc 193, 2) := dk_18 193 (dk_at dksX8_part_4 13 rfl rfl)
theorem dX8_part_107 : decode cX8_part 107 = .ok (.invokevirtual 124, 3) := dk_182 0 124 (dk_at dksX8_part_4 15 rfl rfl)
theorem dX8_part_110 : decode cX8_part 110 = .ok (.ifCond .eq 7, 3) := dk_153 0 7 (dk_at dksX8_part_4 18 rfl rfl)
theorem dX8_part_113 : decode cX8_part 113 = .ok (.iconst 4, 1) := dk_7 (dk_at dksX8_part_4 21 rfl rfl)
theorem dX8_part_114 : decode cX8_part 114 = .ok (.goto 17, 3) := dk_167 0 17 (dk_at dksX8_part_5 0 rfl rfl)
theorem dX8_part_117 : decode cX8_part 117 = .ok (.aload_n 0, 1) := dk_42 (dk_at dksX8_part_5 3 rfl rfl)
theorem dX8_part_118 : decode cX8_part 118 = .ok (.ldc 195, 2) := dk_18 195 (dk_at dksX8_part_5 4 rfl rfl)
theorem dX8_part_120 : decode cX8_part 120 = .ok (.invokevirtual 124, 3) := dk_182 0 124 (dk_at dksX8_part_5 6 rfl rfl)
theorem dX8_part_123 : decode cX8_part 123 = .ok (.ifCond .eq 7, 3) := dk_153 0 7 (dk_at dksX8_part_5 9 rfl rfl)
theorem dX8_part_126 : decode cX8_part 126 = .ok (.iconst 5, 1) := dk_8 (dk_at dksX8_part_5 12 rfl rfl)
theorem dX8_part_127 : decode cX8_part 127 = .ok (.goto 4, 3) := dk_167 0 4 (dk_at dksX8_part_5 13 rfl rfl)
theorem dX8_part_130 : decode cX8_part 130 = .ok (.iconst (-1), 1) := dk_2 (dk_at dksX8_part_5 16 rfl rfl)
theorem dX8_part_131 : decode cX8_part 131 = .ok (.istore_n 1, 1) := dk_60 (dk_at dksX8_part_5 17 rfl rfl)
theorem dX8_part_132 : decode cX8_part 132 = .ok (.iload_n 1, 1) := dk_27 (dk_at dksX8_part_5 18 rfl rfl)
theorem dX8_part_133 : decode cX8_part 133 = .ok (.iconst (-1), 1) := dk_2 (dk_at dksX8_part_5 19 rfl rfl)
theorem dX8_part_134 : decode cX8_part 134 = .ok (.if_icmp .ne 13, 3) := dk_160 0 13 (dk_at dksX8_part_5 20 rfl rfl)
theorem dX8_part_137 : decode cX8_part 137 = .ok (.aload_n 0, 1) := dk_42 (dk_at dksX8_part_5 23 rfl rfl)
theorem dX8_part_138 : decode cX8_part 138 = .ok (.aload_n 0, 1) := dk_42 (dk_at dksX8_part_6 0 rfl rfl)
theorem dX8_part_139 : decode cX8_part 139 = .ok (.getfield 67, 3) := dk_180 0 67 (dk_at dksX8_part_6 1 rfl rfl)
theorem dX8_part_142 : decode cX8_part 142 = .ok (.invokevirtual 93, 3) := dk_182 0 93 (dk_at dksX8_part_6 4 rfl rfl)
theorem dX8_part_145 : decode cX8_part 145 = .ok (.iconst 0, 1) := dk_3 (dk_at dksX8_part_6 7 rfl rfl)
theorem dX8_part_146 : decode cX8_part 146 = .ok (.ireturn, 1) := dk_172 (dk_at dksX8_part_6 8 rfl rfl)
theorem dX8_part_147 : decode cX8_part 147 = .ok (.aload_n 0, 1) := dk_42 (dk_at dksX8_part_6 9 rfl rfl)
theorem dX8_part_148 : decode cX8_part 148 = .ok (.getfield 29, 3) := dk_180 0 29 (dk_at dksX8_part_6 10 rfl rfl)
theorem dX8_part_151 : decode cX8_part 151 = .ok (.iload_n 1, 1) := dk_27 (dk_at dksX8_part_6 13 rfl rfl)
theorem dX8_part_152 : decode cX8_part 152 = .ok (.iaload, 1) := dk_46 (dk_at dksX8_part_6 14 rfl rfl)
theorem dX8_part_153 : decode cX8_part 153 = .ok (.ireturn, 1) := dk_172 (dk_at dksX8_part_6 15 rfl rfl)
abbrev cX8_figures : ByteArray := prog_21_method_26_code
def yX8_figures : MethodName := ⟨RX8, "figures", "(II)I"⟩
def dkwX8_figures_5 : List UInt8 := [164, 0, 8, 42, 29, 182, 0, 93, 21, 4, 172]
abbrev dktX8_figures_5 : List UInt8 := dkwX8_figures_5 ++ []
def dkwX8_figures_4 : List UInt8 := [159, 0, 25, 42, 180, 0, 67, 29, 100, 6, 163, 0, 15, 21, 4, 27, 161, 0, 9, 21, 4, 28]
abbrev dktX8_figures_4 : List UInt8 := dkwX8_figures_4 ++ dktX8_figures_5
def dkwX8_figures_3 : List UInt8 := [16, 48, 100, 54, 4, 42, 89, 180, 0, 67, 4, 96, 181, 0, 67, 167, 255, 188, 42, 180, 0, 67, 29]
abbrev dktX8_figures_3 : List UInt8 := dkwX8_figures_3 ++ dktX8_figures_4
def dkwX8_figures_2 : List UInt8 := [42, 180, 0, 67, 29, 100, 6, 163, 0, 35, 16, 10, 21, 4, 104, 42, 42, 180, 0, 67, 182, 0, 73, 96]
abbrev dktX8_figures_2 : List UInt8 := dkwX8_figures_2 ++ dktX8_figures_3
def dkwX8_figures_1 : List UInt8 := [180, 0, 70, 162, 0, 63, 42, 42, 180, 0, 67, 182, 0, 73, 16, 48, 16, 57, 184, 0, 53, 153, 0, 45]
abbrev dktX8_figures_1 : List UInt8 := dkwX8_figures_1 ++ dktX8_figures_2
def dkwX8_figures_0 : List UInt8 := [42, 180, 0, 25, 2, 159, 0, 5, 3, 172, 42, 182, 0, 90, 62, 3, 54, 4, 42, 180, 0, 67, 42]
abbrev dktX8_figures_0 : List UInt8 := dkwX8_figures_0 ++ dktX8_figures_1
theorem dksX8_figures_0 : cX8_figures.data.toList.drop 0 = dktX8_figures_0 := by decide +kernel
theorem dksX8_figures_1 : cX8_figures.data.toList.drop 23 = dktX8_figures_1 := dk_seg dksX8_figures_0 23 rfl rfl
theorem dksX8_figures_2 : cX8_figures.data.toList.drop 47 = dktX8_figures_2 := dk_seg dksX8_figures_1 24 rfl rfl
theorem dksX8_figures_3 : cX8_figures.data.toList.drop 71 = dktX8_figures_3 := dk_seg dksX8_figures_2 24 rfl rfl
theorem dksX8_figures_4 : cX8_figures.data.toList.drop 94 = dktX8_figures_4 := dk_seg dksX8_figures_3 23 rfl rfl
theorem dksX8_figures_5 : cX8_figures.data.toList.drop 116 = dktX8_figures_5 := dk_seg dksX8_figures_4 22 rfl rfl
theorem dX8_figures_0 : decode cX8_figures 0 = .ok (.aload_n 0, 1) := dk_42 (dk_at dksX8_figures_0 0 rfl rfl)
theorem dX8_figures_1 : decode cX8_figures 1 = .ok (.getfield 25, 3) := dk_180 0 25 (dk_at dksX8_figures_0 1 rfl rfl)
theorem dX8_figures_4 : decode cX8_figures 4 = .ok (.iconst (-1), 1) := dk_2 (dk_at dksX8_figures_0 4 rfl rfl)
theorem dX8_figures_5 : decode cX8_figures 5 = .ok (.if_icmp .eq 5, 3) := dk_159 0 5 (dk_at dksX8_figures_0 5 rfl rfl)
theorem dX8_figures_8 : decode cX8_figures 8 = .ok (.iconst 0, 1) := dk_3 (dk_at dksX8_figures_0 8 rfl rfl)
theorem dX8_figures_9 : decode cX8_figures 9 = .ok (.ireturn, 1) := dk_172 (dk_at dksX8_figures_0 9 rfl rfl)
theorem dX8_figures_10 : decode cX8_figures 10 = .ok (.aload_n 0, 1) := dk_42 (dk_at dksX8_figures_0 10 rfl rfl)
theorem dX8_figures_11 : decode cX8_figures 11 = .ok (.invokevirtual 90, 3) := dk_182 0 90 (dk_at dksX8_figures_0 11 rfl rfl)
theorem dX8_figures_14 : decode cX8_figures 14 = .ok (.istore_n 3, 1) := dk_62 (dk_at dksX8_figures_0 14 rfl rfl)
theorem dX8_figures_15 : decode cX8_figures 15 = .ok (.iconst 0, 1) := dk_3 (dk_at dksX8_figures_0 15 rfl rfl)
theorem dX8_figures_16 : decode cX8_figures 16 = .ok (.istore 4, 2) := dk_54 4 (dk_at dksX8_figures_0 16 rfl rfl)
theorem dX8_figures_18 : decode cX8_figures 18 = .ok (.aload_n 0, 1) := dk_42 (dk_at dksX8_figures_0 18 rfl rfl)
theorem dX8_figures_19 : decode cX8_figures 19 = .ok (.getfield 67, 3) := dk_180 0 67 (dk_at dksX8_figures_0 19 rfl rfl)
theorem dX8_figures_22 : decode cX8_figures 22 = .ok (.aload_n 0, 1) := dk_42 (dk_at dksX8_figures_0 22 rfl rfl)
theorem dX8_figures_23 : decode cX8_figures 23 = .ok (.getfield 70, 3) := dk_180 0 70 (dk_at dksX8_figures_1 0 rfl rfl)
theorem dX8_figures_26 : decode cX8_figures 26 = .ok (.if_icmp .ge 63, 3) := dk_162 0 63 (dk_at dksX8_figures_1 3 rfl rfl)
theorem dX8_figures_29 : decode cX8_figures 29 = .ok (.aload_n 0, 1) := dk_42 (dk_at dksX8_figures_1 6 rfl rfl)
theorem dX8_figures_30 : decode cX8_figures 30 = .ok (.aload_n 0, 1) := dk_42 (dk_at dksX8_figures_1 7 rfl rfl)
theorem dX8_figures_31 : decode cX8_figures 31 = .ok (.getfield 67, 3) := dk_180 0 67 (dk_at dksX8_figures_1 8 rfl rfl)
theorem dX8_figures_34 : decode cX8_figures 34 = .ok (.invokevirtual 73, 3) := dk_182 0 73 (dk_at dksX8_figures_1 11 rfl rfl)
theorem dX8_figures_37 : decode cX8_figures 37 = .ok (.bipush 48, 2) := dk_16 48 (dk_at dksX8_figures_1 14 rfl rfl)
theorem dX8_figures_39 : decode cX8_figures 39 = .ok (.bipush 57, 2) := dk_16 57 (dk_at dksX8_figures_1 16 rfl rfl)
theorem dX8_figures_41 : decode cX8_figures 41 = .ok (.invokestatic 53, 3) := dk_184 0 53 (dk_at dksX8_figures_1 18 rfl rfl)
theorem dX8_figures_44 : decode cX8_figures 44 = .ok (.ifCond .eq 45, 3) := dk_153 0 45 (dk_at dksX8_figures_1 21 rfl rfl)
theorem dX8_figures_47 : decode cX8_figures 47 = .ok (.aload_n 0, 1) := dk_42 (dk_at dksX8_figures_2 0 rfl rfl)
theorem dX8_figures_48 : decode cX8_figures 48 = .ok (.getfield 67, 3) := dk_180 0 67 (dk_at dksX8_figures_2 1 rfl rfl)
theorem dX8_figures_51 : decode cX8_figures 51 = .ok (.iload_n 3, 1) := dk_29 (dk_at dksX8_figures_2 4 rfl rfl)
theorem dX8_figures_52 : decode cX8_figures 52 = .ok (.isub, 1) := dk_100 (dk_at dksX8_figures_2 5 rfl rfl)
theorem dX8_figures_53 : decode cX8_figures 53 = .ok (.iconst 3, 1) := dk_6 (dk_at dksX8_figures_2 6 rfl rfl)
theorem dX8_figures_54 : decode cX8_figures 54 = .ok (.if_icmp .gt 35, 3) := dk_163 0 35 (dk_at dksX8_figures_2 7 rfl rfl)
theorem dX8_figures_57 : decode cX8_figures 57 = .ok (.bipush 10, 2) := dk_16 10 (dk_at dksX8_figures_2 10 rfl rfl)
theorem dX8_figures_59 : decode cX8_figures 59 = .ok (.iload 4, 2) := dk_21 4 (dk_at dksX8_figures_2 12 rfl rfl)
theorem dX8_figures_61 : decode cX8_figures 61 = .ok (.imul, 1) := dk_104 (dk_at dksX8_figures_2 14 rfl rfl)
theorem dX8_figures_62 : decode cX8_figures 62 = .ok (.aload_n 0, 1) := dk_42 (dk_at dksX8_figures_2 15 rfl rfl)
theorem dX8_figures_63 : decode cX8_figures 63 = .ok (.aload_n 0, 1) := dk_42 (dk_at dksX8_figures_2 16 rfl rfl)
theorem dX8_figures_64 : decode cX8_figures 64 = .ok (.getfield 67, 3) := dk_180 0 67 (dk_at dksX8_figures_2 17 rfl rfl)
theorem dX8_figures_67 : decode cX8_figures 67 = .ok (.invokevirtual 73, 3) := dk_182 0 73 (dk_at dksX8_figures_2 20 rfl rfl)
theorem dX8_figures_70 : decode cX8_figures 70 = .ok (.iadd, 1) := dk_96 (dk_at dksX8_figures_2 23 rfl rfl)
theorem dX8_figures_71 : decode cX8_figures 71 = .ok (.bipush 48, 2) := dk_16 48 (dk_at dksX8_figures_3 0 rfl rfl)
theorem dX8_figures_73 : decode cX8_figures 73 = .ok (.isub, 1) := dk_100 (dk_at dksX8_figures_3 2 rfl rfl)
theorem dX8_figures_74 : decode cX8_figures 74 = .ok (.istore 4, 2) := dk_54 4 (dk_at dksX8_figures_3 3 rfl rfl)
theorem dX8_figures_76 : decode cX8_figures 76 = .ok (.aload_n 0, 1) := dk_42 (dk_at dksX8_figures_3 5 rfl rfl)
theorem dX8_figures_77 : decode cX8_figures 77 = .ok (.dup, 1) := dk_89 (dk_at dksX8_figures_3 6 rfl rfl)
theorem dX8_figures_78 : decode cX8_figures 78 = .ok (.getfield 67, 3) := dk_180 0 67 (dk_at dksX8_figures_3 7 rfl rfl)
theorem dX8_figures_81 : decode cX8_figures 81 = .ok (.iconst 1, 1) := dk_4 (dk_at dksX8_figures_3 10 rfl rfl)
theorem dX8_figures_82 : decode cX8_figures 82 = .ok (.iadd, 1) := dk_96 (dk_at dksX8_figures_3 11 rfl rfl)
theorem dX8_figures_83 : decode cX8_figures 83 = .ok (.putfield 67, 3) := dk_181 0 67 (dk_at dksX8_figures_3 12 rfl rfl)
theorem dX8_figures_86 : decode cX8_figures 86 = .ok (.goto (-68), 3) := dk_167 255 188 (dk_at dksX8_figures_3 15 rfl rfl)
theorem dX8_figures_89 : decode cX8_figures 89 = .ok (.aload_n 0, 1) := dk_42 (dk_at dksX8_figures_3 18 rfl rfl)
theorem dX8_figures_90 : decode cX8_figures 90 = .ok (.getfield 67, 3) := dk_180 0 67 (dk_at dksX8_figures_3 19 rfl rfl)
theorem dX8_figures_93 : decode cX8_figures 93 = .ok (.iload_n 3, 1) := dk_29 (dk_at dksX8_figures_3 22 rfl rfl)
theorem dX8_figures_94 : decode cX8_figures 94 = .ok (.if_icmp .eq 25, 3) := dk_159 0 25 (dk_at dksX8_figures_4 0 rfl rfl)
theorem dX8_figures_97 : decode cX8_figures 97 = .ok (.aload_n 0, 1) := dk_42 (dk_at dksX8_figures_4 3 rfl rfl)
theorem dX8_figures_98 : decode cX8_figures 98 = .ok (.getfield 67, 3) := dk_180 0 67 (dk_at dksX8_figures_4 4 rfl rfl)
theorem dX8_figures_101 : decode cX8_figures 101 = .ok (.iload_n 3, 1) := dk_29 (dk_at dksX8_figures_4 7 rfl rfl)
theorem dX8_figures_102 : decode cX8_figures 102 = .ok (.isub, 1) := dk_100 (dk_at dksX8_figures_4 8 rfl rfl)
theorem dX8_figures_103 : decode cX8_figures 103 = .ok (.iconst 3, 1) := dk_6 (dk_at dksX8_figures_4 9 rfl rfl)
theorem dX8_figures_104 : decode cX8_figures 104 = .ok (.if_icmp .gt 15, 3) := dk_163 0 15 (dk_at dksX8_figures_4 10 rfl rfl)
theorem dX8_figures_107 : decode cX8_figures 107 = .ok (.iload 4, 2) := dk_21 4 (dk_at dksX8_figures_4 13 rfl rfl)
theorem dX8_figures_109 : decode cX8_figures 109 = .ok (.iload_n 1, 1) := dk_27 (dk_at dksX8_figures_4 15 rfl rfl)
theorem dX8_figures_110 : decode cX8_figures 110 = .ok (.if_icmp .lt 9, 3) := dk_161 0 9 (dk_at dksX8_figures_4 16 rfl rfl)
theorem dX8_figures_113 : decode cX8_figures 113 = .ok (.iload 4, 2) := dk_21 4 (dk_at dksX8_figures_4 19 rfl rfl)
theorem dX8_figures_115 : decode cX8_figures 115 = .ok (.iload_n 2, 1) := dk_28 (dk_at dksX8_figures_4 21 rfl rfl)
theorem dX8_figures_116 : decode cX8_figures 116 = .ok (.if_icmp .le 8, 3) := dk_164 0 8 (dk_at dksX8_figures_5 0 rfl rfl)
theorem dX8_figures_119 : decode cX8_figures 119 = .ok (.aload_n 0, 1) := dk_42 (dk_at dksX8_figures_5 3 rfl rfl)
theorem dX8_figures_120 : decode cX8_figures 120 = .ok (.iload_n 3, 1) := dk_29 (dk_at dksX8_figures_5 4 rfl rfl)
theorem dX8_figures_121 : decode cX8_figures 121 = .ok (.invokevirtual 93, 3) := dk_182 0 93 (dk_at dksX8_figures_5 5 rfl rfl)
theorem dX8_figures_124 : decode cX8_figures 124 = .ok (.iload 4, 2) := dk_21 4 (dk_at dksX8_figures_5 8 rfl rfl)
theorem dX8_figures_126 : decode cX8_figures 126 = .ok (.ireturn, 1) := dk_172 (dk_at dksX8_figures_5 10 rfl rfl)
abbrev cX8_doorLine : ByteArray := prog_21_method_34_code
def yX8_doorLine : MethodName := ⟨RX8, "doorLine", "()V"⟩
def dkwX8_doorLine_8 : List UInt8 := [42, 180, 0, 67, 182, 0, 93, 177]
abbrev dktX8_doorLine_8 : List UInt8 := dkwX8_doorLine_8 ++ []
def dkwX8_doorLine_7 : List UInt8 := [182, 0, 104, 61, 42, 180, 0, 25, 2, 160, 0, 11, 42, 180, 0, 7, 16, 7, 28, 79, 167, 0, 11, 42]
abbrev dktX8_doorLine_7 : List UInt8 := dkwX8_doorLine_7 ++ dktX8_doorLine_8
def dkwX8_doorLine_6 : List UInt8 := [180, 0, 7, 16, 6, 28, 79, 167, 0, 47, 42, 18, 155, 182, 0, 124, 153, 0, 30, 42, 3, 16, 100]
abbrev dktX8_doorLine_6 : List UInt8 := dkwX8_doorLine_6 ++ dktX8_doorLine_7
def dkwX8_doorLine_5 : List UInt8 := [182, 0, 124, 153, 0, 30, 42, 3, 16, 100, 182, 0, 104, 61, 42, 180, 0, 25, 2, 160, 0, 11, 42]
abbrev dktX8_doorLine_5 : List UInt8 := dkwX8_doorLine_5 ++ dktX8_doorLine_6
def dkwX8_doorLine_4 : List UInt8 := [61, 42, 180, 0, 25, 2, 160, 0, 10, 42, 180, 0, 7, 7, 28, 79, 167, 0, 83, 42, 18, 153]
abbrev dktX8_doorLine_4 : List UInt8 := dkwX8_doorLine_4 ++ dktX8_doorLine_5
def dkwX8_doorLine_3 : List UInt8 := [18, 145, 182, 0, 124, 153, 0, 38, 42, 4, 42, 182, 0, 147, 4, 96, 184, 0, 150, 16, 12, 182, 0, 104]
abbrev dktX8_doorLine_3 : List UInt8 := dkwX8_doorLine_3 ++ dktX8_doorLine_4
def dkwX8_doorLine_2 : List UInt8 := [42, 182, 0, 137, 167, 0, 143, 42, 18, 140, 182, 0, 124, 153, 0, 10, 42, 182, 0, 142, 167, 0, 127, 42]
abbrev dktX8_doorLine_2 : List UInt8 := dkwX8_doorLine_2 ++ dktX8_doorLine_3
def dkwX8_doorLine_1 : List UInt8 := [18, 130, 182, 0, 124, 153, 0, 10, 42, 182, 0, 132, 167, 0, 159, 42, 18, 135, 182, 0, 124, 153, 0, 10]
abbrev dktX8_doorLine_1 : List UInt8 := dkwX8_doorLine_1 ++ dktX8_doorLine_2
def dkwX8_doorLine_0 : List UInt8 := [42, 182, 0, 90, 60, 42, 18, 122, 182, 0, 124, 153, 0, 11, 42, 27, 182, 0, 127, 167, 0, 175, 42]
abbrev dktX8_doorLine_0 : List UInt8 := dkwX8_doorLine_0 ++ dktX8_doorLine_1
theorem dksX8_doorLine_0 : cX8_doorLine.data.toList.drop 0 = dktX8_doorLine_0 := by decide +kernel
theorem dksX8_doorLine_1 : cX8_doorLine.data.toList.drop 23 = dktX8_doorLine_1 := dk_seg dksX8_doorLine_0 23 rfl rfl
theorem dksX8_doorLine_2 : cX8_doorLine.data.toList.drop 47 = dktX8_doorLine_2 := dk_seg dksX8_doorLine_1 24 rfl rfl
theorem dksX8_doorLine_3 : cX8_doorLine.data.toList.drop 71 = dktX8_doorLine_3 := dk_seg dksX8_doorLine_2 24 rfl rfl
theorem dksX8_doorLine_4 : cX8_doorLine.data.toList.drop 95 = dktX8_doorLine_4 := dk_seg dksX8_doorLine_3 24 rfl rfl
theorem dksX8_doorLine_5 : cX8_doorLine.data.toList.drop 117 = dktX8_doorLine_5 := dk_seg dksX8_doorLine_4 22 rfl rfl
theorem dksX8_doorLine_6 : cX8_doorLine.data.toList.drop 140 = dktX8_doorLine_6 := dk_seg dksX8_doorLine_5 23 rfl rfl
theorem dksX8_doorLine_7 : cX8_doorLine.data.toList.drop 163 = dktX8_doorLine_7 := dk_seg dksX8_doorLine_6 23 rfl rfl
theorem dksX8_doorLine_8 : cX8_doorLine.data.toList.drop 187 = dktX8_doorLine_8 := dk_seg dksX8_doorLine_7 24 rfl rfl
theorem dX8_doorLine_0 : decode cX8_doorLine 0 = .ok (.aload_n 0, 1) := dk_42 (dk_at dksX8_doorLine_0 0 rfl rfl)
theorem dX8_doorLine_1 : decode cX8_doorLine 1 = .ok (.invokevirtual 90, 3) := dk_182 0 90 (dk_at dksX8_doorLine_0 1 rfl rfl)
theorem dX8_doorLine_4 : decode cX8_doorLine 4 = .ok (.istore_n 1, 1) := dk_60 (dk_at dksX8_doorLine_0 4 rfl rfl)
theorem dX8_doorLine_5 : decode cX8_doorLine 5 = .ok (.aload_n 0, 1) := dk_42 (dk_at dksX8_doorLine_0 5 rfl rfl)
theorem dX8_doorLine_6 : decode cX8_doorLine 6 = .ok (.ldc 122, 2) := dk_18 122 (dk_at dksX8_doorLine_0 6 rfl rfl)
theorem dX8_doorLine_8 : decode cX8_doorLine 8 = .ok (.invokevirtual 124, 3) := dk_182 0 124 (dk_at dksX8_doorLine_0 8 rfl rfl)
theorem dX8_doorLine_11 : decode cX8_doorLine 11 = .ok (.ifCond .eq 11, 3) := dk_153 0 11 (dk_at dksX8_doorLine_0 11 rfl rfl)
theorem dX8_doorLine_14 : decode cX8_doorLine 14 = .ok (.aload_n 0, 1) := dk_42 (dk_at dksX8_doorLine_0 14 rfl rfl)
theorem dX8_doorLine_15 : decode cX8_doorLine 15 = .ok (.iload_n 1, 1) := dk_27 (dk_at dksX8_doorLine_0 15 rfl rfl)
theorem dX8_doorLine_16 : decode cX8_doorLine 16 = .ok (.invokevirtual 127, 3) := dk_182 0 127 (dk_at dksX8_doorLine_0 16 rfl rfl)
theorem dX8_doorLine_19 : decode cX8_doorLine 19 = .ok (.goto 175, 3) := dk_167 0 175 (dk_at dksX8_doorLine_0 19 rfl rfl)
theorem dX8_doorLine_22 : decode cX8_doorLine 22 = .ok (.aload_n 0, 1) := dk_42 (dk_at dksX8_doorLine_0 22 rfl rfl)
theorem dX8_doorLine_23 : decode cX8_doorLine 23 = .ok (.ldc 130, 2) := dk_18 130 (dk_at dksX8_doorLine_1 0 rfl rfl)
theorem dX8_doorLine_25 : decode cX8_doorLine 25 = .ok (.invokevirtual 124, 3) := dk_182 0 124 (dk_at dksX8_doorLine_1 2 rfl rfl)
theorem dX8_doorLine_28 : decode cX8_doorLine 28 = .ok (.ifCond .eq 10, 3) := dk_153 0 10 (dk_at dksX8_doorLine_1 5 rfl rfl)
theorem dX8_doorLine_31 : decode cX8_doorLine 31 = .ok (.aload_n 0, 1) := dk_42 (dk_at dksX8_doorLine_1 8 rfl rfl)
theorem dX8_doorLine_32 : decode cX8_doorLine 32 = .ok (.invokevirtual 132, 3) := dk_182 0 132 (dk_at dksX8_doorLine_1 9 rfl rfl)
theorem dX8_doorLine_35 : decode cX8_doorLine 35 = .ok (.goto 159, 3) := dk_167 0 159 (dk_at dksX8_doorLine_1 12 rfl rfl)
theorem dX8_doorLine_38 : decode cX8_doorLine 38 = .ok (.aload_n 0, 1) := dk_42 (dk_at dksX8_doorLine_1 15 rfl rfl)
theorem dX8_doorLine_39 : decode cX8_doorLine 39 = .ok (.ldc 135, 2) := dk_18 135 (dk_at dksX8_doorLine_1 16 rfl rfl)
theorem dX8_doorLine_41 : decode cX8_doorLine 41 = .ok (.invokevirtual 124, 3) := dk_182 0 124 (dk_at dksX8_doorLine_1 18 rfl rfl)
theorem dX8_doorLine_44 : decode cX8_doorLine 44 = .ok (.ifCond .eq 10, 3) := dk_153 0 10 (dk_at dksX8_doorLine_1 21 rfl rfl)
theorem dX8_doorLine_47 : decode cX8_doorLine 47 = .ok (.aload_n 0, 1) := dk_42 (dk_at dksX8_doorLine_2 0 rfl rfl)
theorem dX8_doorLine_48 : decode cX8_doorLine 48 = .ok (.invokevirtual 137, 3) := dk_182 0 137 (dk_at dksX8_doorLine_2 1 rfl rfl)
theorem dX8_doorLine_51 : decode cX8_doorLine 51 = .ok (.goto 143, 3) := dk_167 0 143 (dk_at dksX8_doorLine_2 4 rfl rfl)
theorem dX8_doorLine_54 : decode cX8_doorLine 54 = .ok (.aload_n 0, 1) := dk_42 (dk_at dksX8_doorLine_2 7 rfl rfl)
theorem dX8_doorLine_55 : decode cX8_doorLine 55 = .ok (.ldc 140, 2) := dk_18 140 (dk_at dksX8_doorLine_2 8 rfl rfl)
theorem dX8_doorLine_57 : decode cX8_doorLine 57 = .ok (.invokevirtual 124, 3) := dk_182 0 124 (dk_at dksX8_doorLine_2 10 rfl rfl)
theorem dX8_doorLine_60 : decode cX8_doorLine 60 = .ok (.ifCond .eq 10, 3) := dk_153 0 10 (dk_at dksX8_doorLine_2 13 rfl rfl)
theorem dX8_doorLine_63 : decode cX8_doorLine 63 = .ok (.aload_n 0, 1) := dk_42 (dk_at dksX8_doorLine_2 16 rfl rfl)
theorem dX8_doorLine_64 : decode cX8_doorLine 64 = .ok (.invokevirtual 142, 3) := dk_182 0 142 (dk_at dksX8_doorLine_2 17 rfl rfl)
theorem dX8_doorLine_67 : decode cX8_doorLine 67 = .ok (.goto 127, 3) := dk_167 0 127 (dk_at dksX8_doorLine_2 20 rfl rfl)
theorem dX8_doorLine_70 : decode cX8_doorLine 70 = .ok (.aload_n 0, 1) := dk_42 (dk_at dksX8_doorLine_2 23 rfl rfl)
theorem dX8_doorLine_71 : decode cX8_doorLine 71 = .ok (.ldc 145, 2) := dk_18 145 (dk_at dksX8_doorLine_3 0 rfl rfl)
theorem dX8_doorLine_73 : decode cX8_doorLine 73 = .ok (.invokevirtual 124, 3) := dk_182 0 124 (dk_at dksX8_doorLine_3 2 rfl rfl)
theorem dX8_doorLine_76 : decode cX8_doorLine 76 = .ok (.ifCond .eq 38, 3) := dk_153 0 38 (dk_at dksX8_doorLine_3 5 rfl rfl)
theorem dX8_doorLine_79 : decode cX8_doorLine 79 = .ok (.aload_n 0, 1) := dk_42 (dk_at dksX8_doorLine_3 8 rfl rfl)
theorem dX8_doorLine_80 : decode cX8_doorLine 80 = .ok (.iconst 1, 1) := dk_4 (dk_at dksX8_doorLine_3 9 rfl rfl)
theorem dX8_doorLine_81 : decode cX8_doorLine 81 = .ok (.aload_n 0, 1) := dk_42 (dk_at dksX8_doorLine_3 10 rfl rfl)
theorem dX8_doorLine_82 : decode cX8_doorLine 82 = .ok (.invokevirtual 147, 3) := dk_182 0 147 (dk_at dksX8_doorLine_3 11 rfl rfl)
theorem dX8_doorLine_85 : decode cX8_doorLine 85 = .ok (.iconst 1, 1) := dk_4 (dk_at dksX8_doorLine_3 14 rfl rfl)
theorem dX8_doorLine_86 : decode cX8_doorLine 86 = .ok (.iadd, 1) := dk_96 (dk_at dksX8_doorLine_3 15 rfl rfl)
theorem dX8_doorLine_87 : decode cX8_doorLine 87 = .ok (.invokestatic 150, 3) := dk_184 0 150 (dk_at dksX8_doorLine_3 16 rfl rfl)
theorem dX8_doorLine_90 : decode cX8_doorLine 90 = .ok (.bipush 12, 2) := dk_16 12 (dk_at dksX8_doorLine_3 19 rfl rfl)
theorem dX8_doorLine_92 : decode cX8_doorLine 92 = .ok (.invokevirtual 104, 3) := dk_182 0 104 (dk_at dksX8_doorLine_3 21 rfl rfl)
theorem dX8_doorLine_95 : decode cX8_doorLine 95 = .ok (.istore_n 2, 1) := dk_61 (dk_at dksX8_doorLine_4 0 rfl rfl)
theorem dX8_doorLine_96 : decode cX8_doorLine 96 = .ok (.aload_n 0, 1) := dk_42 (dk_at dksX8_doorLine_4 1 rfl rfl)
theorem dX8_doorLine_97 : decode cX8_doorLine 97 = .ok (.getfield 25, 3) := dk_180 0 25 (dk_at dksX8_doorLine_4 2 rfl rfl)
theorem dX8_doorLine_100 : decode cX8_doorLine 100 = .ok (.iconst (-1), 1) := dk_2 (dk_at dksX8_doorLine_4 5 rfl rfl)
theorem dX8_doorLine_101 : decode cX8_doorLine 101 = .ok (.if_icmp .ne 10, 3) := dk_160 0 10 (dk_at dksX8_doorLine_4 6 rfl rfl)
theorem dX8_doorLine_104 : decode cX8_doorLine 104 = .ok (.aload_n 0, 1) := dk_42 (dk_at dksX8_doorLine_4 9 rfl rfl)
theorem dX8_doorLine_105 : decode cX8_doorLine 105 = .ok (.getfield 7, 3) := dk_180 0 7 (dk_at dksX8_doorLine_4 10 rfl rfl)
theorem dX8_doorLine_108 : decode cX8_doorLine 108 = .ok (.iconst 4, 1) := dk_7 (dk_at dksX8_doorLine_4 13 rfl rfl)
theorem dX8_doorLine_109 : decode cX8_doorLine 109 = .ok (.iload_n 2, 1) := dk_28 (dk_at dksX8_doorLine_4 14 rfl rfl)
theorem dX8_doorLine_110 : decode cX8_doorLine 110 = .ok (.iastore, 1) := dk_79 (dk_at dksX8_doorLine_4 15 rfl rfl)
theorem dX8_doorLine_111 : decode cX8_doorLine 111 = .ok (.goto 83, 3) := dk_167 0 83 (dk_at dksX8_doorLine_4 16 rfl rfl)
theorem dX8_doorLine_114 : decode cX8_doorLine 114 = .ok (.aload_n 0, 1) := dk_42 (dk_at dksX8_doorLine_4 19 rfl rfl)
theorem dX8_doorLine_115 : decode cX8_doorLine 115 = .ok (.ldc 153, 2) := dk_18 153 (dk_at dksX8_doorLine_4 20 rfl rfl)
theorem dX8_doorLine_117 : decode cX8_doorLine 117 = .ok (.invokevirtual 124, 3) := dk_182 0 124 (dk_at dksX8_doorLine_5 0 rfl rfl)
theorem dX8_doorLine_120 : decode cX8_doorLine 120 = .ok (.ifCond .eq 30, 3) := dk_153 0 30 (dk_at dksX8_doorLine_5 3 rfl rfl)
theorem dX8_doorLine_123 : decode cX8_doorLine 123 = .ok (.aload_n 0, 1) := dk_42 (dk_at dksX8_doorLine_5 6 rfl rfl)
theorem dX8_doorLine_124 : decode cX8_doorLine 124 = .ok (.iconst 0, 1) := dk_3 (dk_at dksX8_doorLine_5 7 rfl rfl)
theorem dX8_doorLine_125 : decode cX8_doorLine 125 = .ok (.bipush 100, 2) := dk_16 100 (dk_at dksX8_doorLine_5 8 rfl rfl)
theorem dX8_doorLine_127 : decode cX8_doorLine 127 = .ok (.invokevirtual 104, 3) := dk_182 0 104 (dk_at dksX8_doorLine_5 10 rfl rfl)
theorem dX8_doorLine_130 : decode cX8_doorLine 130 = .ok (.istore_n 2, 1) := dk_61 (dk_at dksX8_doorLine_5 13 rfl rfl)
theorem dX8_doorLine_131 : decode cX8_doorLine 131 = .ok (.aload_n 0, 1) := dk_42 (dk_at dksX8_doorLine_5 14 rfl rfl)
theorem dX8_doorLine_132 : decode cX8_doorLine 132 = .ok (.getfield 25, 3) := dk_180 0 25 (dk_at dksX8_doorLine_5 15 rfl rfl)
theorem dX8_doorLine_135 : decode cX8_doorLine 135 = .ok (.iconst (-1), 1) := dk_2 (dk_at dksX8_doorLine_5 18 rfl rfl)
theorem dX8_doorLine_136 : decode cX8_doorLine 136 = .ok (.if_icmp .ne 11, 3) := dk_160 0 11 (dk_at dksX8_doorLine_5 19 rfl rfl)
theorem dX8_doorLine_139 : decode cX8_doorLine 139 = .ok (.aload_n 0, 1) := dk_42 (dk_at dksX8_doorLine_5 22 rfl rfl)
theorem dX8_doorLine_140 : decode cX8_doorLine 140 = .ok (.getfield 7, 3) := dk_180 0 7 (dk_at dksX8_doorLine_6 0 rfl rfl)
theorem dX8_doorLine_143 : decode cX8_doorLine 143 = .ok (.bipush 6, 2) := dk_16 6 (dk_at dksX8_doorLine_6 3 rfl rfl)
theorem dX8_doorLine_145 : decode cX8_doorLine 145 = .ok (.iload_n 2, 1) := dk_28 (dk_at dksX8_doorLine_6 5 rfl rfl)
theorem dX8_doorLine_146 : decode cX8_doorLine 146 = .ok (.iastore, 1) := dk_79 (dk_at dksX8_doorLine_6 6 rfl rfl)
theorem dX8_doorLine_147 : decode cX8_doorLine 147 = .ok (.goto 47, 3) := dk_167 0 47 (dk_at dksX8_doorLine_6 7 rfl rfl)
theorem dX8_doorLine_150 : decode cX8_doorLine 150 = .ok (.aload_n 0, 1) := dk_42 (dk_at dksX8_doorLine_6 10 rfl rfl)
theorem dX8_doorLine_151 : decode cX8_doorLine 151 = .ok (.ldc 155, 2) := dk_18 155 (dk_at dksX8_doorLine_6 11 rfl rfl)
theorem dX8_doorLine_153 : decode cX8_doorLine 153 = .ok (.invokevirtual 124, 3) := dk_182 0 124 (dk_at dksX8_doorLine_6 13 rfl rfl)
theorem dX8_doorLine_156 : decode cX8_doorLine 156 = .ok (.ifCond .eq 30, 3) := dk_153 0 30 (dk_at dksX8_doorLine_6 16 rfl rfl)
theorem dX8_doorLine_159 : decode cX8_doorLine 159 = .ok (.aload_n 0, 1) := dk_42 (dk_at dksX8_doorLine_6 19 rfl rfl)
theorem dX8_doorLine_160 : decode cX8_doorLine 160 = .ok (.iconst 0, 1) := dk_3 (dk_at dksX8_doorLine_6 20 rfl rfl)
theorem dX8_doorLine_161 : decode cX8_doorLine 161 = .ok (.bipush 100, 2) := dk_16 100 (dk_at dksX8_doorLine_6 21 rfl rfl)
theorem dX8_doorLine_163 : decode cX8_doorLine 163 = .ok (.invokevirtual 104, 3) := dk_182 0 104 (dk_at dksX8_doorLine_7 0 rfl rfl)
theorem dX8_doorLine_166 : decode cX8_doorLine 166 = .ok (.istore_n 2, 1) := dk_61 (dk_at dksX8_doorLine_7 3 rfl rfl)
theorem dX8_doorLine_167 : decode cX8_doorLine 167 = .ok (.aload_n 0, 1) := dk_42 (dk_at dksX8_doorLine_7 4 rfl rfl)
theorem dX8_doorLine_168 : decode cX8_doorLine 168 = .ok (.getfield 25, 3) := dk_180 0 25 (dk_at dksX8_doorLine_7 5 rfl rfl)
theorem dX8_doorLine_171 : decode cX8_doorLine 171 = .ok (.iconst (-1), 1) := dk_2 (dk_at dksX8_doorLine_7 8 rfl rfl)
theorem dX8_doorLine_172 : decode cX8_doorLine 172 = .ok (.if_icmp .ne 11, 3) := dk_160 0 11 (dk_at dksX8_doorLine_7 9 rfl rfl)
theorem dX8_doorLine_175 : decode cX8_doorLine 175 = .ok (.aload_n 0, 1) := dk_42 (dk_at dksX8_doorLine_7 12 rfl rfl)
theorem dX8_doorLine_176 : decode cX8_doorLine 176 = .ok (.getfield 7, 3) := dk_180 0 7 (dk_at dksX8_doorLine_7 13 rfl rfl)
theorem dX8_doorLine_179 : decode cX8_doorLine 179 = .ok (.bipush 7, 2) := dk_16 7 (dk_at dksX8_doorLine_7 16 rfl rfl)
theorem dX8_doorLine_181 : decode cX8_doorLine 181 = .ok (.iload_n 2, 1) := dk_28 (dk_at dksX8_doorLine_7 18 rfl rfl)
theorem dX8_doorLine_182 : decode cX8_doorLine 182 = .ok (.iastore, 1) := dk_79 (dk_at dksX8_doorLine_7 19 rfl rfl)
theorem dX8_doorLine_183 : decode cX8_doorLine 183 = .ok (.goto 11, 3) := dk_167 0 11 (dk_at dksX8_doorLine_7 20 rfl rfl)
theorem dX8_doorLine_186 : decode cX8_doorLine 186 = .ok (.aload_n 0, 1) := dk_42 (dk_at dksX8_doorLine_7 23 rfl rfl)
theorem dX8_doorLine_187 : decode cX8_doorLine 187 = .ok (.aload_n 0, 1) := dk_42 (dk_at dksX8_doorLine_8 0 rfl rfl)
theorem dX8_doorLine_188 : decode cX8_doorLine 188 = .ok (.getfield 67, 3) := dk_180 0 67 (dk_at dksX8_doorLine_8 1 rfl rfl)
theorem dX8_doorLine_191 : decode cX8_doorLine 191 = .ok (.invokevirtual 93, 3) := dk_182 0 93 (dk_at dksX8_doorLine_8 4 rfl rfl)
theorem dX8_doorLine_194 : decode cX8_doorLine 194 = .ok (.return_, 1) := dk_177 (dk_at dksX8_doorLine_8 7 rfl rfl)
abbrev cX8_personLine : ByteArray := prog_21_method_28_code
def yX8_personLine : MethodName := ⟨RX8, "personLine", "(I)V"⟩
def dkwX8_personLine_7 : List UInt8 := [180, 0, 7, 6, 92, 46, 4, 96, 79, 177]
abbrev dktX8_personLine_7 : List UInt8 := dkwX8_personLine_7 ++ []
def dkwX8_personLine_6 : List UInt8 := [180, 0, 7, 17, 0, 172, 16, 10, 21, 5, 104, 96, 21, 4, 96, 3, 79, 132, 5, 1, 167, 255, 192, 42]
abbrev dktX8_personLine_6 : List UInt8 := dkwX8_personLine_6 ++ dktX8_personLine_7
def dkwX8_personLine_5 : List UInt8 := [21, 5, 79, 42, 180, 0, 7, 17, 0, 172, 16, 10, 21, 4, 104, 96, 21, 5, 96, 3, 79, 42]
abbrev dktX8_personLine_5 : List UInt8 := dkwX8_personLine_5 ++ dktX8_personLine_6
def dkwX8_personLine_4 : List UInt8 := [54, 5, 21, 5, 16, 10, 162, 0, 63, 42, 180, 0, 7, 16, 72, 16, 10, 21, 4, 104, 96, 21, 5, 96]
abbrev dktX8_personLine_4 : List UInt8 := dkwX8_personLine_4 ++ dktX8_personLine_5
def dkwX8_personLine_3 : List UInt8 := [21, 4, 6, 2, 182, 0, 100, 42, 21, 4, 7, 2, 182, 0, 100, 42, 21, 4, 8, 3, 182, 0, 100, 3]
abbrev dktX8_personLine_3 : List UInt8 := dkwX8_personLine_3 ++ dktX8_personLine_4
def dkwX8_personLine_2 : List UInt8 := [3, 28, 182, 0, 100, 42, 21, 4, 4, 29, 182, 0, 100, 42, 21, 4, 5, 21, 4, 182, 0, 100, 42]
abbrev dktX8_personLine_2 : List UInt8 := dkwX8_personLine_2 ++ dktX8_personLine_3
def dkwX8_personLine_1 : List UInt8 := [182, 0, 97, 62, 42, 180, 0, 25, 2, 159, 0, 4, 177, 42, 180, 0, 7, 6, 46, 54, 4, 42, 21, 4]
abbrev dktX8_personLine_1 : List UInt8 := dkwX8_personLine_1 ++ dktX8_personLine_2
def dkwX8_personLine_0 : List UInt8 := [42, 180, 0, 7, 6, 46, 16, 10, 160, 0, 8, 42, 27, 182, 0, 93, 42, 182, 0, 97, 61, 42]
abbrev dktX8_personLine_0 : List UInt8 := dkwX8_personLine_0 ++ dktX8_personLine_1
theorem dksX8_personLine_0 : cX8_personLine.data.toList.drop 0 = dktX8_personLine_0 := by decide +kernel
theorem dksX8_personLine_1 : cX8_personLine.data.toList.drop 22 = dktX8_personLine_1 := dk_seg dksX8_personLine_0 22 rfl rfl
theorem dksX8_personLine_2 : cX8_personLine.data.toList.drop 46 = dktX8_personLine_2 := dk_seg dksX8_personLine_1 24 rfl rfl
theorem dksX8_personLine_3 : cX8_personLine.data.toList.drop 69 = dktX8_personLine_3 := dk_seg dksX8_personLine_2 23 rfl rfl
theorem dksX8_personLine_4 : cX8_personLine.data.toList.drop 93 = dktX8_personLine_4 := dk_seg dksX8_personLine_3 24 rfl rfl
theorem dksX8_personLine_5 : cX8_personLine.data.toList.drop 117 = dktX8_personLine_5 := dk_seg dksX8_personLine_4 24 rfl rfl
theorem dksX8_personLine_6 : cX8_personLine.data.toList.drop 139 = dktX8_personLine_6 := dk_seg dksX8_personLine_5 22 rfl rfl
theorem dksX8_personLine_7 : cX8_personLine.data.toList.drop 163 = dktX8_personLine_7 := dk_seg dksX8_personLine_6 24 rfl rfl
theorem dX8_personLine_0 : decode cX8_personLine 0 = .ok (.aload_n 0, 1) := dk_42 (dk_at dksX8_personLine_0 0 rfl rfl)
theorem dX8_personLine_1 : decode cX8_personLine 1 = .ok (.getfield 7, 3) := dk_180 0 7 (dk_at dksX8_personLine_0 1 rfl rfl)
theorem dX8_personLine_4 : decode cX8_personLine 4 = .ok (.iconst 3, 1) := dk_6 (dk_at dksX8_personLine_0 4 rfl rfl)
theorem dX8_personLine_5 : decode cX8_personLine 5 = .ok (.iaload, 1) := dk_46 (dk_at dksX8_personLine_0 5 rfl rfl)
theorem dX8_personLine_6 : decode cX8_personLine 6 = .ok (.bipush 10, 2) := dk_16 10 (dk_at dksX8_personLine_0 6 rfl rfl)
theorem dX8_personLine_8 : decode cX8_personLine 8 = .ok (.if_icmp .ne 8, 3) := dk_160 0 8 (dk_at dksX8_personLine_0 8 rfl rfl)
theorem dX8_personLine_11 : decode cX8_personLine 11 = .ok (.aload_n 0, 1) := dk_42 (dk_at dksX8_personLine_0 11 rfl rfl)
theorem dX8_personLine_12 : decode cX8_personLine 12 = .ok (.iload_n 1, 1) := dk_27 (dk_at dksX8_personLine_0 12 rfl rfl)
theorem dX8_personLine_13 : decode cX8_personLine 13 = .ok (.invokevirtual 93, 3) := dk_182 0 93 (dk_at dksX8_personLine_0 13 rfl rfl)
theorem dX8_personLine_16 : decode cX8_personLine 16 = .ok (.aload_n 0, 1) := dk_42 (dk_at dksX8_personLine_0 16 rfl rfl)
theorem dX8_personLine_17 : decode cX8_personLine 17 = .ok (.invokevirtual 97, 3) := dk_182 0 97 (dk_at dksX8_personLine_0 17 rfl rfl)
theorem dX8_personLine_20 : decode cX8_personLine 20 = .ok (.istore_n 2, 1) := dk_61 (dk_at dksX8_personLine_0 20 rfl rfl)
theorem dX8_personLine_21 : decode cX8_personLine 21 = .ok (.aload_n 0, 1) := dk_42 (dk_at dksX8_personLine_0 21 rfl rfl)
theorem dX8_personLine_22 : decode cX8_personLine 22 = .ok (.invokevirtual 97, 3) := dk_182 0 97 (dk_at dksX8_personLine_1 0 rfl rfl)
theorem dX8_personLine_25 : decode cX8_personLine 25 = .ok (.istore_n 3, 1) := dk_62 (dk_at dksX8_personLine_1 3 rfl rfl)
theorem dX8_personLine_26 : decode cX8_personLine 26 = .ok (.aload_n 0, 1) := dk_42 (dk_at dksX8_personLine_1 4 rfl rfl)
theorem dX8_personLine_27 : decode cX8_personLine 27 = .ok (.getfield 25, 3) := dk_180 0 25 (dk_at dksX8_personLine_1 5 rfl rfl)
theorem dX8_personLine_30 : decode cX8_personLine 30 = .ok (.iconst (-1), 1) := dk_2 (dk_at dksX8_personLine_1 8 rfl rfl)
theorem dX8_personLine_31 : decode cX8_personLine 31 = .ok (.if_icmp .eq 4, 3) := dk_159 0 4 (dk_at dksX8_personLine_1 9 rfl rfl)
theorem dX8_personLine_34 : decode cX8_personLine 34 = .ok (.return_, 1) := dk_177 (dk_at dksX8_personLine_1 12 rfl rfl)
theorem dX8_personLine_35 : decode cX8_personLine 35 = .ok (.aload_n 0, 1) := dk_42 (dk_at dksX8_personLine_1 13 rfl rfl)
theorem dX8_personLine_36 : decode cX8_personLine 36 = .ok (.getfield 7, 3) := dk_180 0 7 (dk_at dksX8_personLine_1 14 rfl rfl)
theorem dX8_personLine_39 : decode cX8_personLine 39 = .ok (.iconst 3, 1) := dk_6 (dk_at dksX8_personLine_1 17 rfl rfl)
theorem dX8_personLine_40 : decode cX8_personLine 40 = .ok (.iaload, 1) := dk_46 (dk_at dksX8_personLine_1 18 rfl rfl)
theorem dX8_personLine_41 : decode cX8_personLine 41 = .ok (.istore 4, 2) := dk_54 4 (dk_at dksX8_personLine_1 19 rfl rfl)
theorem dX8_personLine_43 : decode cX8_personLine 43 = .ok (.aload_n 0, 1) := dk_42 (dk_at dksX8_personLine_1 21 rfl rfl)
theorem dX8_personLine_44 : decode cX8_personLine 44 = .ok (.iload 4, 2) := dk_21 4 (dk_at dksX8_personLine_1 22 rfl rfl)
theorem dX8_personLine_46 : decode cX8_personLine 46 = .ok (.iconst 0, 1) := dk_3 (dk_at dksX8_personLine_2 0 rfl rfl)
theorem dX8_personLine_47 : decode cX8_personLine 47 = .ok (.iload_n 2, 1) := dk_28 (dk_at dksX8_personLine_2 1 rfl rfl)
theorem dX8_personLine_48 : decode cX8_personLine 48 = .ok (.invokevirtual 100, 3) := dk_182 0 100 (dk_at dksX8_personLine_2 2 rfl rfl)
theorem dX8_personLine_51 : decode cX8_personLine 51 = .ok (.aload_n 0, 1) := dk_42 (dk_at dksX8_personLine_2 5 rfl rfl)
theorem dX8_personLine_52 : decode cX8_personLine 52 = .ok (.iload 4, 2) := dk_21 4 (dk_at dksX8_personLine_2 6 rfl rfl)
theorem dX8_personLine_54 : decode cX8_personLine 54 = .ok (.iconst 1, 1) := dk_4 (dk_at dksX8_personLine_2 8 rfl rfl)
theorem dX8_personLine_55 : decode cX8_personLine 55 = .ok (.iload_n 3, 1) := dk_29 (dk_at dksX8_personLine_2 9 rfl rfl)
theorem dX8_personLine_56 : decode cX8_personLine 56 = .ok (.invokevirtual 100, 3) := dk_182 0 100 (dk_at dksX8_personLine_2 10 rfl rfl)
theorem dX8_personLine_59 : decode cX8_personLine 59 = .ok (.aload_n 0, 1) := dk_42 (dk_at dksX8_personLine_2 13 rfl rfl)
theorem dX8_personLine_60 : decode cX8_personLine 60 = .ok (.iload 4, 2) := dk_21 4 (dk_at dksX8_personLine_2 14 rfl rfl)
theorem dX8_personLine_62 : decode cX8_personLine 62 = .ok (.iconst 2, 1) := dk_5 (dk_at dksX8_personLine_2 16 rfl rfl)
theorem dX8_personLine_63 : decode cX8_personLine 63 = .ok (.iload 4, 2) := dk_21 4 (dk_at dksX8_personLine_2 17 rfl rfl)
theorem dX8_personLine_65 : decode cX8_personLine 65 = .ok (.invokevirtual 100, 3) := dk_182 0 100 (dk_at dksX8_personLine_2 19 rfl rfl)
theorem dX8_personLine_68 : decode cX8_personLine 68 = .ok (.aload_n 0, 1) := dk_42 (dk_at dksX8_personLine_2 22 rfl rfl)
theorem dX8_personLine_69 : decode cX8_personLine 69 = .ok (.iload 4, 2) := dk_21 4 (dk_at dksX8_personLine_3 0 rfl rfl)
theorem dX8_personLine_71 : decode cX8_personLine 71 = .ok (.iconst 3, 1) := dk_6 (dk_at dksX8_personLine_3 2 rfl rfl)
theorem dX8_personLine_72 : decode cX8_personLine 72 = .ok (.iconst (-1), 1) := dk_2 (dk_at dksX8_personLine_3 3 rfl rfl)
theorem dX8_personLine_73 : decode cX8_personLine 73 = .ok (.invokevirtual 100, 3) := dk_182 0 100 (dk_at dksX8_personLine_3 4 rfl rfl)
theorem dX8_personLine_76 : decode cX8_personLine 76 = .ok (.aload_n 0, 1) := dk_42 (dk_at dksX8_personLine_3 7 rfl rfl)
theorem dX8_personLine_77 : decode cX8_personLine 77 = .ok (.iload 4, 2) := dk_21 4 (dk_at dksX8_personLine_3 8 rfl rfl)
theorem dX8_personLine_79 : decode cX8_personLine 79 = .ok (.iconst 4, 1) := dk_7 (dk_at dksX8_personLine_3 10 rfl rfl)
theorem dX8_personLine_80 : decode cX8_personLine 80 = .ok (.iconst (-1), 1) := dk_2 (dk_at dksX8_personLine_3 11 rfl rfl)
theorem dX8_personLine_81 : decode cX8_personLine 81 = .ok (.invokevirtual 100, 3) := dk_182 0 100 (dk_at dksX8_personLine_3 12 rfl rfl)
theorem dX8_personLine_84 : decode cX8_personLine 84 = .ok (.aload_n 0, 1) := dk_42 (dk_at dksX8_personLine_3 15 rfl rfl)
theorem dX8_personLine_85 : decode cX8_personLine 85 = .ok (.iload 4, 2) := dk_21 4 (dk_at dksX8_personLine_3 16 rfl rfl)
theorem dX8_personLine_87 : decode cX8_personLine 87 = .ok (.iconst 5, 1) := dk_8 (dk_at dksX8_personLine_3 18 rfl rfl)
theorem dX8_personLine_88 : decode cX8_personLine 88 = .ok (.iconst 0, 1) := dk_3 (dk_at dksX8_personLine_3 19 rfl rfl)
theorem dX8_personLine_89 : decode cX8_personLine 89 = .ok (.invokevirtual 100, 3) := dk_182 0 100 (dk_at dksX8_personLine_3 20 rfl rfl)
theorem dX8_personLine_92 : decode cX8_personLine 92 = .ok (.iconst 0, 1) := dk_3 (dk_at dksX8_personLine_3 23 rfl rfl)
theorem dX8_personLine_93 : decode cX8_personLine 93 = .ok (.istore 5, 2) := dk_54 5 (dk_at dksX8_personLine_4 0 rfl rfl)
theorem dX8_personLine_95 : decode cX8_personLine 95 = .ok (.iload 5, 2) := dk_21 5 (dk_at dksX8_personLine_4 2 rfl rfl)
theorem dX8_personLine_97 : decode cX8_personLine 97 = .ok (.bipush 10, 2) := dk_16 10 (dk_at dksX8_personLine_4 4 rfl rfl)
theorem dX8_personLine_99 : decode cX8_personLine 99 = .ok (.if_icmp .ge 63, 3) := dk_162 0 63 (dk_at dksX8_personLine_4 6 rfl rfl)
theorem dX8_personLine_102 : decode cX8_personLine 102 = .ok (.aload_n 0, 1) := dk_42 (dk_at dksX8_personLine_4 9 rfl rfl)
theorem dX8_personLine_103 : decode cX8_personLine 103 = .ok (.getfield 7, 3) := dk_180 0 7 (dk_at dksX8_personLine_4 10 rfl rfl)
theorem dX8_personLine_106 : decode cX8_personLine 106 = .ok (.bipush 72, 2) := dk_16 72 (dk_at dksX8_personLine_4 13 rfl rfl)
theorem dX8_personLine_108 : decode cX8_personLine 108 = .ok (.bipush 10, 2) := dk_16 10 (dk_at dksX8_personLine_4 15 rfl rfl)
theorem dX8_personLine_110 : decode cX8_personLine 110 = .ok (.iload 4, 2) := dk_21 4 (dk_at dksX8_personLine_4 17 rfl rfl)
theorem dX8_personLine_112 : decode cX8_personLine 112 = .ok (.imul, 1) := dk_104 (dk_at dksX8_personLine_4 19 rfl rfl)
theorem dX8_personLine_113 : decode cX8_personLine 113 = .ok (.iadd, 1) := dk_96 (dk_at dksX8_personLine_4 20 rfl rfl)
theorem dX8_personLine_114 : decode cX8_personLine 114 = .ok (.iload 5, 2) := dk_21 5 (dk_at dksX8_personLine_4 21 rfl rfl)
theorem dX8_personLine_116 : decode cX8_personLine 116 = .ok (.iadd, 1) := dk_96 (dk_at dksX8_personLine_4 23 rfl rfl)
theorem dX8_personLine_117 : decode cX8_personLine 117 = .ok (.iload 5, 2) := dk_21 5 (dk_at dksX8_personLine_5 0 rfl rfl)
theorem dX8_personLine_119 : decode cX8_personLine 119 = .ok (.iastore, 1) := dk_79 (dk_at dksX8_personLine_5 2 rfl rfl)
theorem dX8_personLine_120 : decode cX8_personLine 120 = .ok (.aload_n 0, 1) := dk_42 (dk_at dksX8_personLine_5 3 rfl rfl)
theorem dX8_personLine_121 : decode cX8_personLine 121 = .ok (.getfield 7, 3) := dk_180 0 7 (dk_at dksX8_personLine_5 4 rfl rfl)
theorem dX8_personLine_124 : decode cX8_personLine 124 = .ok (.sipush 172, 3) := dk_17 0 172 (dk_at dksX8_personLine_5 7 rfl rfl)
theorem dX8_personLine_127 : decode cX8_personLine 127 = .ok (.bipush 10, 2) := dk_16 10 (dk_at dksX8_personLine_5 10 rfl rfl)
theorem dX8_personLine_129 : decode cX8_personLine 129 = .ok (.iload 4, 2) := dk_21 4 (dk_at dksX8_personLine_5 12 rfl rfl)
theorem dX8_personLine_131 : decode cX8_personLine 131 = .ok (.imul, 1) := dk_104 (dk_at dksX8_personLine_5 14 rfl rfl)
theorem dX8_personLine_132 : decode cX8_personLine 132 = .ok (.iadd, 1) := dk_96 (dk_at dksX8_personLine_5 15 rfl rfl)
theorem dX8_personLine_133 : decode cX8_personLine 133 = .ok (.iload 5, 2) := dk_21 5 (dk_at dksX8_personLine_5 16 rfl rfl)
theorem dX8_personLine_135 : decode cX8_personLine 135 = .ok (.iadd, 1) := dk_96 (dk_at dksX8_personLine_5 18 rfl rfl)
theorem dX8_personLine_136 : decode cX8_personLine 136 = .ok (.iconst 0, 1) := dk_3 (dk_at dksX8_personLine_5 19 rfl rfl)
theorem dX8_personLine_137 : decode cX8_personLine 137 = .ok (.iastore, 1) := dk_79 (dk_at dksX8_personLine_5 20 rfl rfl)
theorem dX8_personLine_138 : decode cX8_personLine 138 = .ok (.aload_n 0, 1) := dk_42 (dk_at dksX8_personLine_5 21 rfl rfl)
theorem dX8_personLine_139 : decode cX8_personLine 139 = .ok (.getfield 7, 3) := dk_180 0 7 (dk_at dksX8_personLine_6 0 rfl rfl)
theorem dX8_personLine_142 : decode cX8_personLine 142 = .ok (.sipush 172, 3) := dk_17 0 172 (dk_at dksX8_personLine_6 3 rfl rfl)
theorem dX8_personLine_145 : decode cX8_personLine 145 = .ok (.bipush 10, 2) := dk_16 10 (dk_at dksX8_personLine_6 6 rfl rfl)
theorem dX8_personLine_147 : decode cX8_personLine 147 = .ok (.iload 5, 2) := dk_21 5 (dk_at dksX8_personLine_6 8 rfl rfl)
theorem dX8_personLine_149 : decode cX8_personLine 149 = .ok (.imul, 1) := dk_104 (dk_at dksX8_personLine_6 10 rfl rfl)
theorem dX8_personLine_150 : decode cX8_personLine 150 = .ok (.iadd, 1) := dk_96 (dk_at dksX8_personLine_6 11 rfl rfl)
theorem dX8_personLine_151 : decode cX8_personLine 151 = .ok (.iload 4, 2) := dk_21 4 (dk_at dksX8_personLine_6 12 rfl rfl)
theorem dX8_personLine_153 : decode cX8_personLine 153 = .ok (.iadd, 1) := dk_96 (dk_at dksX8_personLine_6 14 rfl rfl)
theorem dX8_personLine_154 : decode cX8_personLine 154 = .ok (.iconst 0, 1) := dk_3 (dk_at dksX8_personLine_6 15 rfl rfl)
theorem dX8_personLine_155 : decode cX8_personLine 155 = .ok (.iastore, 1) := dk_79 (dk_at dksX8_personLine_6 16 rfl rfl)
theorem dX8_personLine_156 : decode cX8_personLine 156 = .ok (.iinc 5 1, 3) := dk_132 5 1 (dk_at dksX8_personLine_6 17 rfl rfl)
theorem dX8_personLine_159 : decode cX8_personLine 159 = .ok (.goto (-64), 3) := dk_167 255 192 (dk_at dksX8_personLine_6 20 rfl rfl)
theorem dX8_personLine_162 : decode cX8_personLine 162 = .ok (.aload_n 0, 1) := dk_42 (dk_at dksX8_personLine_6 23 rfl rfl)
theorem dX8_personLine_163 : decode cX8_personLine 163 = .ok (.getfield 7, 3) := dk_180 0 7 (dk_at dksX8_personLine_7 0 rfl rfl)
theorem dX8_personLine_166 : decode cX8_personLine 166 = .ok (.iconst 3, 1) := dk_6 (dk_at dksX8_personLine_7 3 rfl rfl)
theorem dX8_personLine_167 : decode cX8_personLine 167 = .ok (.dup2, 1) := dk_92 (dk_at dksX8_personLine_7 4 rfl rfl)
theorem dX8_personLine_168 : decode cX8_personLine 168 = .ok (.iaload, 1) := dk_46 (dk_at dksX8_personLine_7 5 rfl rfl)
theorem dX8_personLine_169 : decode cX8_personLine 169 = .ok (.iconst 1, 1) := dk_4 (dk_at dksX8_personLine_7 6 rfl rfl)
theorem dX8_personLine_170 : decode cX8_personLine 170 = .ok (.iadd, 1) := dk_96 (dk_at dksX8_personLine_7 7 rfl rfl)
theorem dX8_personLine_171 : decode cX8_personLine 171 = .ok (.iastore, 1) := dk_79 (dk_at dksX8_personLine_7 8 rfl rfl)
theorem dX8_personLine_172 : decode cX8_personLine 172 = .ok (.return_, 1) := dk_177 (dk_at dksX8_personLine_7 9 rfl rfl)
abbrev cX8_eight : ByteArray := prog_21_method_27_code
def yX8_eight : MethodName := ⟨RX8, "eight", "()I"⟩
def dkwX8_eight_5 : List UInt8 := [181, 0, 67, 167, 255, 159, 21, 4, 153, 0, 9, 29, 16, 8, 159, 0, 8, 42, 27, 182, 0, 93, 28, 172]
abbrev dktX8_eight_5 : List UInt8 := dkwX8_eight_5 ++ []
def dkwX8_eight_4 : List UInt8 := [182, 0, 73, 16, 49, 160, 0, 9, 28, 4, 29, 120, 128, 61, 132, 3, 1, 42, 89, 180, 0, 67, 4, 96]
abbrev dktX8_eight_4 : List UInt8 := dkwX8_eight_4 ++ dktX8_eight_5
def dkwX8_eight_3 : List UInt8 := [29, 16, 8, 162, 0, 7, 4, 167, 0, 4, 3, 54, 4, 21, 4, 153, 0, 22, 42, 42, 180, 0, 67]
abbrev dktX8_eight_3 : List UInt8 := dkwX8_eight_3 ++ dktX8_eight_4
def dkwX8_eight_2 : List UInt8 := [184, 0, 53, 153, 0, 74, 21, 4, 153, 0, 26, 42, 42, 180, 0, 67, 182, 0, 73, 16, 49, 163, 0, 13]
abbrev dktX8_eight_2 : List UInt8 := dkwX8_eight_2 ++ dktX8_eight_3
def dkwX8_eight_1 : List UInt8 := [180, 0, 67, 42, 180, 0, 70, 162, 0, 92, 42, 42, 180, 0, 67, 182, 0, 73, 16, 48, 16, 57]
abbrev dktX8_eight_1 : List UInt8 := dkwX8_eight_1 ++ dktX8_eight_2
def dkwX8_eight_0 : List UInt8 := [42, 180, 0, 25, 2, 159, 0, 5, 3, 172, 42, 182, 0, 90, 60, 3, 61, 3, 62, 4, 54, 4, 42]
abbrev dktX8_eight_0 : List UInt8 := dkwX8_eight_0 ++ dktX8_eight_1
theorem dksX8_eight_0 : cX8_eight.data.toList.drop 0 = dktX8_eight_0 := by decide +kernel
theorem dksX8_eight_1 : cX8_eight.data.toList.drop 23 = dktX8_eight_1 := dk_seg dksX8_eight_0 23 rfl rfl
theorem dksX8_eight_2 : cX8_eight.data.toList.drop 45 = dktX8_eight_2 := dk_seg dksX8_eight_1 22 rfl rfl
theorem dksX8_eight_3 : cX8_eight.data.toList.drop 69 = dktX8_eight_3 := dk_seg dksX8_eight_2 24 rfl rfl
theorem dksX8_eight_4 : cX8_eight.data.toList.drop 92 = dktX8_eight_4 := dk_seg dksX8_eight_3 23 rfl rfl
theorem dksX8_eight_5 : cX8_eight.data.toList.drop 116 = dktX8_eight_5 := dk_seg dksX8_eight_4 24 rfl rfl
theorem dX8_eight_0 : decode cX8_eight 0 = .ok (.aload_n 0, 1) := dk_42 (dk_at dksX8_eight_0 0 rfl rfl)
theorem dX8_eight_1 : decode cX8_eight 1 = .ok (.getfield 25, 3) := dk_180 0 25 (dk_at dksX8_eight_0 1 rfl rfl)
theorem dX8_eight_4 : decode cX8_eight 4 = .ok (.iconst (-1), 1) := dk_2 (dk_at dksX8_eight_0 4 rfl rfl)
theorem dX8_eight_5 : decode cX8_eight 5 = .ok (.if_icmp .eq 5, 3) := dk_159 0 5 (dk_at dksX8_eight_0 5 rfl rfl)
theorem dX8_eight_8 : decode cX8_eight 8 = .ok (.iconst 0, 1) := dk_3 (dk_at dksX8_eight_0 8 rfl rfl)
theorem dX8_eight_9 : decode cX8_eight 9 = .ok (.ireturn, 1) := dk_172 (dk_at dksX8_eight_0 9 rfl rfl)
theorem dX8_eight_10 : decode cX8_eight 10 = .ok (.aload_n 0, 1) := dk_42 (dk_at dksX8_eight_0 10 rfl rfl)
theorem dX8_eight_11 : decode cX8_eight 11 = .ok (.invokevirtual 90, 3) := dk_182 0 90 (dk_at dksX8_eight_0 11 rfl rfl)
theorem dX8_eight_14 : decode cX8_eight 14 = .ok (.istore_n 1, 1) := dk_60 (dk_at dksX8_eight_0 14 rfl rfl)
theorem dX8_eight_15 : decode cX8_eight 15 = .ok (.iconst 0, 1) := dk_3 (dk_at dksX8_eight_0 15 rfl rfl)
theorem dX8_eight_16 : decode cX8_eight 16 = .ok (.istore_n 2, 1) := dk_61 (dk_at dksX8_eight_0 16 rfl rfl)
theorem dX8_eight_17 : decode cX8_eight 17 = .ok (.iconst 0, 1) := dk_3 (dk_at dksX8_eight_0 17 rfl rfl)
theorem dX8_eight_18 : decode cX8_eight 18 = .ok (.istore_n 3, 1) := dk_62 (dk_at dksX8_eight_0 18 rfl rfl)
theorem dX8_eight_19 : decode cX8_eight 19 = .ok (.iconst 1, 1) := dk_4 (dk_at dksX8_eight_0 19 rfl rfl)
theorem dX8_eight_20 : decode cX8_eight 20 = .ok (.istore 4, 2) := dk_54 4 (dk_at dksX8_eight_0 20 rfl rfl)
theorem dX8_eight_22 : decode cX8_eight 22 = .ok (.aload_n 0, 1) := dk_42 (dk_at dksX8_eight_0 22 rfl rfl)
theorem dX8_eight_23 : decode cX8_eight 23 = .ok (.getfield 67, 3) := dk_180 0 67 (dk_at dksX8_eight_1 0 rfl rfl)
theorem dX8_eight_26 : decode cX8_eight 26 = .ok (.aload_n 0, 1) := dk_42 (dk_at dksX8_eight_1 3 rfl rfl)
theorem dX8_eight_27 : decode cX8_eight 27 = .ok (.getfield 70, 3) := dk_180 0 70 (dk_at dksX8_eight_1 4 rfl rfl)
theorem dX8_eight_30 : decode cX8_eight 30 = .ok (.if_icmp .ge 92, 3) := dk_162 0 92 (dk_at dksX8_eight_1 7 rfl rfl)
theorem dX8_eight_33 : decode cX8_eight 33 = .ok (.aload_n 0, 1) := dk_42 (dk_at dksX8_eight_1 10 rfl rfl)
theorem dX8_eight_34 : decode cX8_eight 34 = .ok (.aload_n 0, 1) := dk_42 (dk_at dksX8_eight_1 11 rfl rfl)
theorem dX8_eight_35 : decode cX8_eight 35 = .ok (.getfield 67, 3) := dk_180 0 67 (dk_at dksX8_eight_1 12 rfl rfl)
theorem dX8_eight_38 : decode cX8_eight 38 = .ok (.invokevirtual 73, 3) := dk_182 0 73 (dk_at dksX8_eight_1 15 rfl rfl)
theorem dX8_eight_41 : decode cX8_eight 41 = .ok (.bipush 48, 2) := dk_16 48 (dk_at dksX8_eight_1 18 rfl rfl)
theorem dX8_eight_43 : decode cX8_eight 43 = .ok (.bipush 57, 2) := dk_16 57 (dk_at dksX8_eight_1 20 rfl rfl)
theorem dX8_eight_45 : decode cX8_eight 45 = .ok (.invokestatic 53, 3) := dk_184 0 53 (dk_at dksX8_eight_2 0 rfl rfl)
theorem dX8_eight_48 : decode cX8_eight 48 = .ok (.ifCond .eq 74, 3) := dk_153 0 74 (dk_at dksX8_eight_2 3 rfl rfl)
theorem dX8_eight_51 : decode cX8_eight 51 = .ok (.iload 4, 2) := dk_21 4 (dk_at dksX8_eight_2 6 rfl rfl)
theorem dX8_eight_53 : decode cX8_eight 53 = .ok (.ifCond .eq 26, 3) := dk_153 0 26 (dk_at dksX8_eight_2 8 rfl rfl)
theorem dX8_eight_56 : decode cX8_eight 56 = .ok (.aload_n 0, 1) := dk_42 (dk_at dksX8_eight_2 11 rfl rfl)
theorem dX8_eight_57 : decode cX8_eight 57 = .ok (.aload_n 0, 1) := dk_42 (dk_at dksX8_eight_2 12 rfl rfl)
theorem dX8_eight_58 : decode cX8_eight 58 = .ok (.getfield 67, 3) := dk_180 0 67 (dk_at dksX8_eight_2 13 rfl rfl)
theorem dX8_eight_61 : decode cX8_eight 61 = .ok (.invokevirtual 73, 3) := dk_182 0 73 (dk_at dksX8_eight_2 16 rfl rfl)
theorem dX8_eight_64 : decode cX8_eight 64 = .ok (.bipush 49, 2) := dk_16 49 (dk_at dksX8_eight_2 19 rfl rfl)
theorem dX8_eight_66 : decode cX8_eight 66 = .ok (.if_icmp .gt 13, 3) := dk_163 0 13 (dk_at dksX8_eight_2 21 rfl rfl)
theorem dX8_eight_69 : decode cX8_eight 69 = .ok (.iload_n 3, 1) := dk_29 (dk_at dksX8_eight_3 0 rfl rfl)
theorem dX8_eight_70 : decode cX8_eight 70 = .ok (.bipush 8, 2) := dk_16 8 (dk_at dksX8_eight_3 1 rfl rfl)
theorem dX8_eight_72 : decode cX8_eight 72 = .ok (.if_icmp .ge 7, 3) := dk_162 0 7 (dk_at dksX8_eight_3 3 rfl rfl)
theorem dX8_eight_75 : decode cX8_eight 75 = .ok (.iconst 1, 1) := dk_4 (dk_at dksX8_eight_3 6 rfl rfl)
theorem dX8_eight_76 : decode cX8_eight 76 = .ok (.goto 4, 3) := dk_167 0 4 (dk_at dksX8_eight_3 7 rfl rfl)
theorem dX8_eight_79 : decode cX8_eight 79 = .ok (.iconst 0, 1) := dk_3 (dk_at dksX8_eight_3 10 rfl rfl)
theorem dX8_eight_80 : decode cX8_eight 80 = .ok (.istore 4, 2) := dk_54 4 (dk_at dksX8_eight_3 11 rfl rfl)
theorem dX8_eight_82 : decode cX8_eight 82 = .ok (.iload 4, 2) := dk_21 4 (dk_at dksX8_eight_3 13 rfl rfl)
theorem dX8_eight_84 : decode cX8_eight 84 = .ok (.ifCond .eq 22, 3) := dk_153 0 22 (dk_at dksX8_eight_3 15 rfl rfl)
theorem dX8_eight_87 : decode cX8_eight 87 = .ok (.aload_n 0, 1) := dk_42 (dk_at dksX8_eight_3 18 rfl rfl)
theorem dX8_eight_88 : decode cX8_eight 88 = .ok (.aload_n 0, 1) := dk_42 (dk_at dksX8_eight_3 19 rfl rfl)
theorem dX8_eight_89 : decode cX8_eight 89 = .ok (.getfield 67, 3) := dk_180 0 67 (dk_at dksX8_eight_3 20 rfl rfl)
theorem dX8_eight_92 : decode cX8_eight 92 = .ok (.invokevirtual 73, 3) := dk_182 0 73 (dk_at dksX8_eight_4 0 rfl rfl)
theorem dX8_eight_95 : decode cX8_eight 95 = .ok (.bipush 49, 2) := dk_16 49 (dk_at dksX8_eight_4 3 rfl rfl)
theorem dX8_eight_97 : decode cX8_eight 97 = .ok (.if_icmp .ne 9, 3) := dk_160 0 9 (dk_at dksX8_eight_4 5 rfl rfl)
theorem dX8_eight_100 : decode cX8_eight 100 = .ok (.iload_n 2, 1) := dk_28 (dk_at dksX8_eight_4 8 rfl rfl)
theorem dX8_eight_101 : decode cX8_eight 101 = .ok (.iconst 1, 1) := dk_4 (dk_at dksX8_eight_4 9 rfl rfl)
theorem dX8_eight_102 : decode cX8_eight 102 = .ok (.iload_n 3, 1) := dk_29 (dk_at dksX8_eight_4 10 rfl rfl)
theorem dX8_eight_103 : decode cX8_eight 103 = .ok (.ishl, 1) := dk_120 (dk_at dksX8_eight_4 11 rfl rfl)
theorem dX8_eight_104 : decode cX8_eight 104 = .ok (.ior, 1) := dk_128 (dk_at dksX8_eight_4 12 rfl rfl)
theorem dX8_eight_105 : decode cX8_eight 105 = .ok (.istore_n 2, 1) := dk_61 (dk_at dksX8_eight_4 13 rfl rfl)
theorem dX8_eight_106 : decode cX8_eight 106 = .ok (.iinc 3 1, 3) := dk_132 3 1 (dk_at dksX8_eight_4 14 rfl rfl)
theorem dX8_eight_109 : decode cX8_eight 109 = .ok (.aload_n 0, 1) := dk_42 (dk_at dksX8_eight_4 17 rfl rfl)
theorem dX8_eight_110 : decode cX8_eight 110 = .ok (.dup, 1) := dk_89 (dk_at dksX8_eight_4 18 rfl rfl)
theorem dX8_eight_111 : decode cX8_eight 111 = .ok (.getfield 67, 3) := dk_180 0 67 (dk_at dksX8_eight_4 19 rfl rfl)
theorem dX8_eight_114 : decode cX8_eight 114 = .ok (.iconst 1, 1) := dk_4 (dk_at dksX8_eight_4 22 rfl rfl)
theorem dX8_eight_115 : decode cX8_eight 115 = .ok (.iadd, 1) := dk_96 (dk_at dksX8_eight_4 23 rfl rfl)
theorem dX8_eight_116 : decode cX8_eight 116 = .ok (.putfield 67, 3) := dk_181 0 67 (dk_at dksX8_eight_5 0 rfl rfl)
theorem dX8_eight_119 : decode cX8_eight 119 = .ok (.goto (-97), 3) := dk_167 255 159 (dk_at dksX8_eight_5 3 rfl rfl)
theorem dX8_eight_122 : decode cX8_eight 122 = .ok (.iload 4, 2) := dk_21 4 (dk_at dksX8_eight_5 6 rfl rfl)
theorem dX8_eight_124 : decode cX8_eight 124 = .ok (.ifCond .eq 9, 3) := dk_153 0 9 (dk_at dksX8_eight_5 8 rfl rfl)
theorem dX8_eight_127 : decode cX8_eight 127 = .ok (.iload_n 3, 1) := dk_29 (dk_at dksX8_eight_5 11 rfl rfl)
theorem dX8_eight_128 : decode cX8_eight 128 = .ok (.bipush 8, 2) := dk_16 8 (dk_at dksX8_eight_5 12 rfl rfl)
theorem dX8_eight_130 : decode cX8_eight 130 = .ok (.if_icmp .eq 8, 3) := dk_159 0 8 (dk_at dksX8_eight_5 14 rfl rfl)
theorem dX8_eight_133 : decode cX8_eight 133 = .ok (.aload_n 0, 1) := dk_42 (dk_at dksX8_eight_5 17 rfl rfl)
theorem dX8_eight_134 : decode cX8_eight 134 = .ok (.iload_n 1, 1) := dk_27 (dk_at dksX8_eight_5 18 rfl rfl)
theorem dX8_eight_135 : decode cX8_eight 135 = .ok (.invokevirtual 93, 3) := dk_182 0 93 (dk_at dksX8_eight_5 19 rfl rfl)
theorem dX8_eight_138 : decode cX8_eight 138 = .ok (.iload_n 2, 1) := dk_28 (dk_at dksX8_eight_5 22 rfl rfl)
theorem dX8_eight_139 : decode cX8_eight 139 = .ok (.ireturn, 1) := dk_172 (dk_at dksX8_eight_5 23 rfl rfl)
abbrev cX8_has_2 : ByteArray := prog_21_method_9_code
def yX8_has_2 : MethodName := ⟨RX8, "has", "(III)V"⟩
def dkwX8_has_2_0 : List UInt8 := [42, 180, 0, 7, 16, 12, 16, 6, 27, 104, 96, 28, 96, 29, 79, 177]
abbrev dktX8_has_2_0 : List UInt8 := dkwX8_has_2_0 ++ []
theorem dksX8_has_2_0 : cX8_has_2.data.toList.drop 0 = dktX8_has_2_0 := by decide +kernel
theorem dX8_has_2_0 : decode cX8_has_2 0 = .ok (.aload_n 0, 1) := dk_42 (dk_at dksX8_has_2_0 0 rfl rfl)
theorem dX8_has_2_1 : decode cX8_has_2 1 = .ok (.getfield 7, 3) := dk_180 0 7 (dk_at dksX8_has_2_0 1 rfl rfl)
theorem dX8_has_2_4 : decode cX8_has_2 4 = .ok (.bipush 12, 2) := dk_16 12 (dk_at dksX8_has_2_0 4 rfl rfl)
theorem dX8_has_2_6 : decode cX8_has_2 6 = .ok (.bipush 6, 2) := dk_16 6 (dk_at dksX8_has_2_0 6 rfl rfl)
theorem dX8_has_2_8 : decode cX8_has_2 8 = .ok (.iload_n 1, 1) := dk_27 (dk_at dksX8_has_2_0 8 rfl rfl)
theorem dX8_has_2_9 : decode cX8_has_2 9 = .ok (.imul, 1) := dk_104 (dk_at dksX8_has_2_0 9 rfl rfl)
theorem dX8_has_2_10 : decode cX8_has_2 10 = .ok (.iadd, 1) := dk_96 (dk_at dksX8_has_2_0 10 rfl rfl)
theorem dX8_has_2_11 : decode cX8_has_2 11 = .ok (.iload_n 2, 1) := dk_28 (dk_at dksX8_has_2_0 11 rfl rfl)
theorem dX8_has_2_12 : decode cX8_has_2 12 = .ok (.iadd, 1) := dk_96 (dk_at dksX8_has_2_0 12 rfl rfl)
theorem dX8_has_2_13 : decode cX8_has_2 13 = .ok (.iload_n 3, 1) := dk_29 (dk_at dksX8_has_2_0 13 rfl rfl)
theorem dX8_has_2_14 : decode cX8_has_2 14 = .ok (.iastore, 1) := dk_79 (dk_at dksX8_has_2_0 14 rfl rfl)
theorem dX8_has_2_15 : decode cX8_has_2 15 = .ok (.return_, 1) := dk_177 (dk_at dksX8_has_2_0 15 rfl rfl)
abbrev cX8_wishLine : ByteArray := prog_21_method_29_code
def yX8_wishLine : MethodName := ⟨RX8, "wishLine", "()V"⟩
def dkwX8_wishLine_7 : List UInt8 := [180, 0, 7, 21, 5, 29, 96, 21, 6, 79, 132, 3, 1, 132, 6, 1, 167, 255, 220, 177]
abbrev dktX8_wishLine_7 : List UInt8 := dkwX8_wishLine_7 ++ []
def dkwX8_wishLine_6 : List UInt8 := [3, 54, 6, 21, 6, 16, 10, 162, 0, 35, 28, 21, 6, 184, 0, 107, 153, 0, 6, 167, 0, 17, 42]
abbrev dktX8_wishLine_6 : List UInt8 := dkwX8_wishLine_6 ++ dktX8_wishLine_7
def dkwX8_wishLine_5 : List UInt8 := [21, 7, 79, 132, 3, 1, 42, 182, 0, 111, 54, 4, 167, 255, 171, 42, 180, 0, 25, 2, 159, 0, 4, 177]
abbrev dktX8_wishLine_5 : List UInt8 := dkwX8_wishLine_5 ++ dktX8_wishLine_6
def dkwX8_wishLine_4 : List UInt8 := [180, 0, 25, 2, 159, 0, 4, 177, 28, 4, 21, 7, 120, 128, 61, 42, 180, 0, 7, 21, 5, 29, 96]
abbrev dktX8_wishLine_4 : List UInt8 := dkwX8_wishLine_4 ++ dktX8_wishLine_5
def dkwX8_wishLine_3 : List UInt8 := [180, 0, 25, 2, 160, 0, 18, 28, 21, 7, 184, 0, 107, 153, 0, 9, 42, 21, 6, 182, 0, 93, 42]
abbrev dktX8_wishLine_3 : List UInt8 := dkwX8_wishLine_3 ++ dktX8_wishLine_4
def dkwX8_wishLine_2 : List UInt8 := [42, 182, 0, 90, 54, 6, 42, 3, 42, 180, 0, 7, 6, 46, 4, 100, 182, 0, 104, 54, 7, 42]
abbrev dktX8_wishLine_2 : List UInt8 := dkwX8_wishLine_2 ++ dktX8_wishLine_3
def dkwX8_wishLine_1 : List UInt8 := [160, 0, 7, 4, 167, 0, 4, 3, 54, 4, 16, 72, 16, 10, 27, 104, 96, 54, 5, 21, 4, 153, 0, 86]
abbrev dktX8_wishLine_1 : List UInt8 := dkwX8_wishLine_1 ++ dktX8_wishLine_2
def dkwX8_wishLine_0 : List UInt8 := [42, 3, 42, 180, 0, 7, 6, 46, 4, 100, 182, 0, 104, 60, 3, 61, 3, 62, 42, 180, 0, 25, 2]
abbrev dktX8_wishLine_0 : List UInt8 := dkwX8_wishLine_0 ++ dktX8_wishLine_1
theorem dksX8_wishLine_0 : cX8_wishLine.data.toList.drop 0 = dktX8_wishLine_0 := by decide +kernel
theorem dksX8_wishLine_1 : cX8_wishLine.data.toList.drop 23 = dktX8_wishLine_1 := dk_seg dksX8_wishLine_0 23 rfl rfl
theorem dksX8_wishLine_2 : cX8_wishLine.data.toList.drop 47 = dktX8_wishLine_2 := dk_seg dksX8_wishLine_1 24 rfl rfl
theorem dksX8_wishLine_3 : cX8_wishLine.data.toList.drop 69 = dktX8_wishLine_3 := dk_seg dksX8_wishLine_2 22 rfl rfl
theorem dksX8_wishLine_4 : cX8_wishLine.data.toList.drop 92 = dktX8_wishLine_4 := dk_seg dksX8_wishLine_3 23 rfl rfl
theorem dksX8_wishLine_5 : cX8_wishLine.data.toList.drop 115 = dktX8_wishLine_5 := dk_seg dksX8_wishLine_4 23 rfl rfl
theorem dksX8_wishLine_6 : cX8_wishLine.data.toList.drop 139 = dktX8_wishLine_6 := dk_seg dksX8_wishLine_5 24 rfl rfl
theorem dksX8_wishLine_7 : cX8_wishLine.data.toList.drop 162 = dktX8_wishLine_7 := dk_seg dksX8_wishLine_6 23 rfl rfl
theorem dX8_wishLine_0 : decode cX8_wishLine 0 = .ok (.aload_n 0, 1) := dk_42 (dk_at dksX8_wishLine_0 0 rfl rfl)
theorem dX8_wishLine_1 : decode cX8_wishLine 1 = .ok (.iconst 0, 1) := dk_3 (dk_at dksX8_wishLine_0 1 rfl rfl)
theorem dX8_wishLine_2 : decode cX8_wishLine 2 = .ok (.aload_n 0, 1) := dk_42 (dk_at dksX8_wishLine_0 2 rfl rfl)
theorem dX8_wishLine_3 : decode cX8_wishLine 3 = .ok (.getfield 7, 3) := dk_180 0 7 (dk_at dksX8_wishLine_0 3 rfl rfl)
theorem dX8_wishLine_6 : decode cX8_wishLine 6 = .ok (.iconst 3, 1) := dk_6 (dk_at dksX8_wishLine_0 6 rfl rfl)
theorem dX8_wishLine_7 : decode cX8_wishLine 7 = .ok (.iaload, 1) := dk_46 (dk_at dksX8_wishLine_0 7 rfl rfl)
theorem dX8_wishLine_8 : decode cX8_wishLine 8 = .ok (.iconst 1, 1) := dk_4 (dk_at dksX8_wishLine_0 8 rfl rfl)
theorem dX8_wishLine_9 : decode cX8_wishLine 9 = .ok (.isub, 1) := dk_100 (dk_at dksX8_wishLine_0 9 rfl rfl)
theorem dX8_wishLine_10 : decode cX8_wishLine 10 = .ok (.invokevirtual 104, 3) := dk_182 0 104 (dk_at dksX8_wishLine_0 10 rfl rfl)
theorem dX8_wishLine_13 : decode cX8_wishLine 13 = .ok (.istore_n 1, 1) := dk_60 (dk_at dksX8_wishLine_0 13 rfl rfl)
theorem dX8_wishLine_14 : decode cX8_wishLine 14 = .ok (.iconst 0, 1) := dk_3 (dk_at dksX8_wishLine_0 14 rfl rfl)
theorem dX8_wishLine_15 : decode cX8_wishLine 15 = .ok (.istore_n 2, 1) := dk_61 (dk_at dksX8_wishLine_0 15 rfl rfl)
theorem dX8_wishLine_16 : decode cX8_wishLine 16 = .ok (.iconst 0, 1) := dk_3 (dk_at dksX8_wishLine_0 16 rfl rfl)
theorem dX8_wishLine_17 : decode cX8_wishLine 17 = .ok (.istore_n 3, 1) := dk_62 (dk_at dksX8_wishLine_0 17 rfl rfl)
theorem dX8_wishLine_18 : decode cX8_wishLine 18 = .ok (.aload_n 0, 1) := dk_42 (dk_at dksX8_wishLine_0 18 rfl rfl)
theorem dX8_wishLine_19 : decode cX8_wishLine 19 = .ok (.getfield 25, 3) := dk_180 0 25 (dk_at dksX8_wishLine_0 19 rfl rfl)
theorem dX8_wishLine_22 : decode cX8_wishLine 22 = .ok (.iconst (-1), 1) := dk_2 (dk_at dksX8_wishLine_0 22 rfl rfl)
theorem dX8_wishLine_23 : decode cX8_wishLine 23 = .ok (.if_icmp .ne 7, 3) := dk_160 0 7 (dk_at dksX8_wishLine_1 0 rfl rfl)
theorem dX8_wishLine_26 : decode cX8_wishLine 26 = .ok (.iconst 1, 1) := dk_4 (dk_at dksX8_wishLine_1 3 rfl rfl)
theorem dX8_wishLine_27 : decode cX8_wishLine 27 = .ok (.goto 4, 3) := dk_167 0 4 (dk_at dksX8_wishLine_1 4 rfl rfl)
theorem dX8_wishLine_30 : decode cX8_wishLine 30 = .ok (.iconst 0, 1) := dk_3 (dk_at dksX8_wishLine_1 7 rfl rfl)
theorem dX8_wishLine_31 : decode cX8_wishLine 31 = .ok (.istore 4, 2) := dk_54 4 (dk_at dksX8_wishLine_1 8 rfl rfl)
theorem dX8_wishLine_33 : decode cX8_wishLine 33 = .ok (.bipush 72, 2) := dk_16 72 (dk_at dksX8_wishLine_1 10 rfl rfl)
theorem dX8_wishLine_35 : decode cX8_wishLine 35 = .ok (.bipush 10, 2) := dk_16 10 (dk_at dksX8_wishLine_1 12 rfl rfl)
theorem dX8_wishLine_37 : decode cX8_wishLine 37 = .ok (.iload_n 1, 1) := dk_27 (dk_at dksX8_wishLine_1 14 rfl rfl)
theorem dX8_wishLine_38 : decode cX8_wishLine 38 = .ok (.imul, 1) := dk_104 (dk_at dksX8_wishLine_1 15 rfl rfl)
theorem dX8_wishLine_39 : decode cX8_wishLine 39 = .ok (.iadd, 1) := dk_96 (dk_at dksX8_wishLine_1 16 rfl rfl)
theorem dX8_wishLine_40 : decode cX8_wishLine 40 = .ok (.istore 5, 2) := dk_54 5 (dk_at dksX8_wishLine_1 17 rfl rfl)
theorem dX8_wishLine_42 : decode cX8_wishLine 42 = .ok (.iload 4, 2) := dk_21 4 (dk_at dksX8_wishLine_1 19 rfl rfl)
theorem dX8_wishLine_44 : decode cX8_wishLine 44 = .ok (.ifCond .eq 86, 3) := dk_153 0 86 (dk_at dksX8_wishLine_1 21 rfl rfl)
theorem dX8_wishLine_47 : decode cX8_wishLine 47 = .ok (.aload_n 0, 1) := dk_42 (dk_at dksX8_wishLine_2 0 rfl rfl)
theorem dX8_wishLine_48 : decode cX8_wishLine 48 = .ok (.invokevirtual 90, 3) := dk_182 0 90 (dk_at dksX8_wishLine_2 1 rfl rfl)
theorem dX8_wishLine_51 : decode cX8_wishLine 51 = .ok (.istore 6, 2) := dk_54 6 (dk_at dksX8_wishLine_2 4 rfl rfl)
theorem dX8_wishLine_53 : decode cX8_wishLine 53 = .ok (.aload_n 0, 1) := dk_42 (dk_at dksX8_wishLine_2 6 rfl rfl)
theorem dX8_wishLine_54 : decode cX8_wishLine 54 = .ok (.iconst 0, 1) := dk_3 (dk_at dksX8_wishLine_2 7 rfl rfl)
theorem dX8_wishLine_55 : decode cX8_wishLine 55 = .ok (.aload_n 0, 1) := dk_42 (dk_at dksX8_wishLine_2 8 rfl rfl)
theorem dX8_wishLine_56 : decode cX8_wishLine 56 = .ok (.getfield 7, 3) := dk_180 0 7 (dk_at dksX8_wishLine_2 9 rfl rfl)
theorem dX8_wishLine_59 : decode cX8_wishLine 59 = .ok (.iconst 3, 1) := dk_6 (dk_at dksX8_wishLine_2 12 rfl rfl)
theorem dX8_wishLine_60 : decode cX8_wishLine 60 = .ok (.iaload, 1) := dk_46 (dk_at dksX8_wishLine_2 13 rfl rfl)
theorem dX8_wishLine_61 : decode cX8_wishLine 61 = .ok (.iconst 1, 1) := dk_4 (dk_at dksX8_wishLine_2 14 rfl rfl)
theorem dX8_wishLine_62 : decode cX8_wishLine 62 = .ok (.isub, 1) := dk_100 (dk_at dksX8_wishLine_2 15 rfl rfl)
theorem dX8_wishLine_63 : decode cX8_wishLine 63 = .ok (.invokevirtual 104, 3) := dk_182 0 104 (dk_at dksX8_wishLine_2 16 rfl rfl)
theorem dX8_wishLine_66 : decode cX8_wishLine 66 = .ok (.istore 7, 2) := dk_54 7 (dk_at dksX8_wishLine_2 19 rfl rfl)
theorem dX8_wishLine_68 : decode cX8_wishLine 68 = .ok (.aload_n 0, 1) := dk_42 (dk_at dksX8_wishLine_2 21 rfl rfl)
theorem dX8_wishLine_69 : decode cX8_wishLine 69 = .ok (.getfield 25, 3) := dk_180 0 25 (dk_at dksX8_wishLine_3 0 rfl rfl)
theorem dX8_wishLine_72 : decode cX8_wishLine 72 = .ok (.iconst (-1), 1) := dk_2 (dk_at dksX8_wishLine_3 3 rfl rfl)
theorem dX8_wishLine_73 : decode cX8_wishLine 73 = .ok (.if_icmp .ne 18, 3) := dk_160 0 18 (dk_at dksX8_wishLine_3 4 rfl rfl)
theorem dX8_wishLine_76 : decode cX8_wishLine 76 = .ok (.iload_n 2, 1) := dk_28 (dk_at dksX8_wishLine_3 7 rfl rfl)
theorem dX8_wishLine_77 : decode cX8_wishLine 77 = .ok (.iload 7, 2) := dk_21 7 (dk_at dksX8_wishLine_3 8 rfl rfl)
theorem dX8_wishLine_79 : decode cX8_wishLine 79 = .ok (.invokestatic 107, 3) := dk_184 0 107 (dk_at dksX8_wishLine_3 10 rfl rfl)
theorem dX8_wishLine_82 : decode cX8_wishLine 82 = .ok (.ifCond .eq 9, 3) := dk_153 0 9 (dk_at dksX8_wishLine_3 13 rfl rfl)
theorem dX8_wishLine_85 : decode cX8_wishLine 85 = .ok (.aload_n 0, 1) := dk_42 (dk_at dksX8_wishLine_3 16 rfl rfl)
theorem dX8_wishLine_86 : decode cX8_wishLine 86 = .ok (.iload 6, 2) := dk_21 6 (dk_at dksX8_wishLine_3 17 rfl rfl)
theorem dX8_wishLine_88 : decode cX8_wishLine 88 = .ok (.invokevirtual 93, 3) := dk_182 0 93 (dk_at dksX8_wishLine_3 19 rfl rfl)
theorem dX8_wishLine_91 : decode cX8_wishLine 91 = .ok (.aload_n 0, 1) := dk_42 (dk_at dksX8_wishLine_3 22 rfl rfl)
theorem dX8_wishLine_92 : decode cX8_wishLine 92 = .ok (.getfield 25, 3) := dk_180 0 25 (dk_at dksX8_wishLine_4 0 rfl rfl)
theorem dX8_wishLine_95 : decode cX8_wishLine 95 = .ok (.iconst (-1), 1) := dk_2 (dk_at dksX8_wishLine_4 3 rfl rfl)
theorem dX8_wishLine_96 : decode cX8_wishLine 96 = .ok (.if_icmp .eq 4, 3) := dk_159 0 4 (dk_at dksX8_wishLine_4 4 rfl rfl)
theorem dX8_wishLine_99 : decode cX8_wishLine 99 = .ok (.return_, 1) := dk_177 (dk_at dksX8_wishLine_4 7 rfl rfl)
theorem dX8_wishLine_100 : decode cX8_wishLine 100 = .ok (.iload_n 2, 1) := dk_28 (dk_at dksX8_wishLine_4 8 rfl rfl)
theorem dX8_wishLine_101 : decode cX8_wishLine 101 = .ok (.iconst 1, 1) := dk_4 (dk_at dksX8_wishLine_4 9 rfl rfl)
theorem dX8_wishLine_102 : decode cX8_wishLine 102 = .ok (.iload 7, 2) := dk_21 7 (dk_at dksX8_wishLine_4 10 rfl rfl)
theorem dX8_wishLine_104 : decode cX8_wishLine 104 = .ok (.ishl, 1) := dk_120 (dk_at dksX8_wishLine_4 12 rfl rfl)
theorem dX8_wishLine_105 : decode cX8_wishLine 105 = .ok (.ior, 1) := dk_128 (dk_at dksX8_wishLine_4 13 rfl rfl)
theorem dX8_wishLine_106 : decode cX8_wishLine 106 = .ok (.istore_n 2, 1) := dk_61 (dk_at dksX8_wishLine_4 14 rfl rfl)
theorem dX8_wishLine_107 : decode cX8_wishLine 107 = .ok (.aload_n 0, 1) := dk_42 (dk_at dksX8_wishLine_4 15 rfl rfl)
theorem dX8_wishLine_108 : decode cX8_wishLine 108 = .ok (.getfield 7, 3) := dk_180 0 7 (dk_at dksX8_wishLine_4 16 rfl rfl)
theorem dX8_wishLine_111 : decode cX8_wishLine 111 = .ok (.iload 5, 2) := dk_21 5 (dk_at dksX8_wishLine_4 19 rfl rfl)
theorem dX8_wishLine_113 : decode cX8_wishLine 113 = .ok (.iload_n 3, 1) := dk_29 (dk_at dksX8_wishLine_4 21 rfl rfl)
theorem dX8_wishLine_114 : decode cX8_wishLine 114 = .ok (.iadd, 1) := dk_96 (dk_at dksX8_wishLine_4 22 rfl rfl)
theorem dX8_wishLine_115 : decode cX8_wishLine 115 = .ok (.iload 7, 2) := dk_21 7 (dk_at dksX8_wishLine_5 0 rfl rfl)
theorem dX8_wishLine_117 : decode cX8_wishLine 117 = .ok (.iastore, 1) := dk_79 (dk_at dksX8_wishLine_5 2 rfl rfl)
theorem dX8_wishLine_118 : decode cX8_wishLine 118 = .ok (.iinc 3 1, 3) := dk_132 3 1 (dk_at dksX8_wishLine_5 3 rfl rfl)
theorem dX8_wishLine_121 : decode cX8_wishLine 121 = .ok (.aload_n 0, 1) := dk_42 (dk_at dksX8_wishLine_5 6 rfl rfl)
theorem dX8_wishLine_122 : decode cX8_wishLine 122 = .ok (.invokevirtual 111, 3) := dk_182 0 111 (dk_at dksX8_wishLine_5 7 rfl rfl)
theorem dX8_wishLine_125 : decode cX8_wishLine 125 = .ok (.istore 4, 2) := dk_54 4 (dk_at dksX8_wishLine_5 10 rfl rfl)
theorem dX8_wishLine_127 : decode cX8_wishLine 127 = .ok (.goto (-85), 3) := dk_167 255 171 (dk_at dksX8_wishLine_5 12 rfl rfl)
theorem dX8_wishLine_130 : decode cX8_wishLine 130 = .ok (.aload_n 0, 1) := dk_42 (dk_at dksX8_wishLine_5 15 rfl rfl)
theorem dX8_wishLine_131 : decode cX8_wishLine 131 = .ok (.getfield 25, 3) := dk_180 0 25 (dk_at dksX8_wishLine_5 16 rfl rfl)
theorem dX8_wishLine_134 : decode cX8_wishLine 134 = .ok (.iconst (-1), 1) := dk_2 (dk_at dksX8_wishLine_5 19 rfl rfl)
theorem dX8_wishLine_135 : decode cX8_wishLine 135 = .ok (.if_icmp .eq 4, 3) := dk_159 0 4 (dk_at dksX8_wishLine_5 20 rfl rfl)
theorem dX8_wishLine_138 : decode cX8_wishLine 138 = .ok (.return_, 1) := dk_177 (dk_at dksX8_wishLine_5 23 rfl rfl)
theorem dX8_wishLine_139 : decode cX8_wishLine 139 = .ok (.iconst 0, 1) := dk_3 (dk_at dksX8_wishLine_6 0 rfl rfl)
theorem dX8_wishLine_140 : decode cX8_wishLine 140 = .ok (.istore 6, 2) := dk_54 6 (dk_at dksX8_wishLine_6 1 rfl rfl)
theorem dX8_wishLine_142 : decode cX8_wishLine 142 = .ok (.iload 6, 2) := dk_21 6 (dk_at dksX8_wishLine_6 3 rfl rfl)
theorem dX8_wishLine_144 : decode cX8_wishLine 144 = .ok (.bipush 10, 2) := dk_16 10 (dk_at dksX8_wishLine_6 5 rfl rfl)
theorem dX8_wishLine_146 : decode cX8_wishLine 146 = .ok (.if_icmp .ge 35, 3) := dk_162 0 35 (dk_at dksX8_wishLine_6 7 rfl rfl)
theorem dX8_wishLine_149 : decode cX8_wishLine 149 = .ok (.iload_n 2, 1) := dk_28 (dk_at dksX8_wishLine_6 10 rfl rfl)
theorem dX8_wishLine_150 : decode cX8_wishLine 150 = .ok (.iload 6, 2) := dk_21 6 (dk_at dksX8_wishLine_6 11 rfl rfl)
theorem dX8_wishLine_152 : decode cX8_wishLine 152 = .ok (.invokestatic 107, 3) := dk_184 0 107 (dk_at dksX8_wishLine_6 13 rfl rfl)
theorem dX8_wishLine_155 : decode cX8_wishLine 155 = .ok (.ifCond .eq 6, 3) := dk_153 0 6 (dk_at dksX8_wishLine_6 16 rfl rfl)
theorem dX8_wishLine_158 : decode cX8_wishLine 158 = .ok (.goto 17, 3) := dk_167 0 17 (dk_at dksX8_wishLine_6 19 rfl rfl)
theorem dX8_wishLine_161 : decode cX8_wishLine 161 = .ok (.aload_n 0, 1) := dk_42 (dk_at dksX8_wishLine_6 22 rfl rfl)
theorem dX8_wishLine_162 : decode cX8_wishLine 162 = .ok (.getfield 7, 3) := dk_180 0 7 (dk_at dksX8_wishLine_7 0 rfl rfl)
theorem dX8_wishLine_165 : decode cX8_wishLine 165 = .ok (.iload 5, 2) := dk_21 5 (dk_at dksX8_wishLine_7 3 rfl rfl)
theorem dX8_wishLine_167 : decode cX8_wishLine 167 = .ok (.iload_n 3, 1) := dk_29 (dk_at dksX8_wishLine_7 5 rfl rfl)
theorem dX8_wishLine_168 : decode cX8_wishLine 168 = .ok (.iadd, 1) := dk_96 (dk_at dksX8_wishLine_7 6 rfl rfl)
theorem dX8_wishLine_169 : decode cX8_wishLine 169 = .ok (.iload 6, 2) := dk_21 6 (dk_at dksX8_wishLine_7 7 rfl rfl)
theorem dX8_wishLine_171 : decode cX8_wishLine 171 = .ok (.iastore, 1) := dk_79 (dk_at dksX8_wishLine_7 9 rfl rfl)
theorem dX8_wishLine_172 : decode cX8_wishLine 172 = .ok (.iinc 3 1, 3) := dk_132 3 1 (dk_at dksX8_wishLine_7 10 rfl rfl)
theorem dX8_wishLine_175 : decode cX8_wishLine 175 = .ok (.iinc 6 1, 3) := dk_132 6 1 (dk_at dksX8_wishLine_7 13 rfl rfl)
theorem dX8_wishLine_178 : decode cX8_wishLine 178 = .ok (.goto (-36), 3) := dk_167 255 220 (dk_at dksX8_wishLine_7 16 rfl rfl)
theorem dX8_wishLine_181 : decode cX8_wishLine 181 = .ok (.return_, 1) := dk_177 (dk_at dksX8_wishLine_7 19 rfl rfl)
abbrev cX8_isOf : ByteArray := prog_21_method_6_code
def yX8_isOf : MethodName := ⟨RX8, "isOf", "(II)Z"⟩
def dkwX8_isOf_0 : List UInt8 := [26, 27, 122, 4, 126, 4, 160, 0, 7, 4, 167, 0, 4, 3, 172]
abbrev dktX8_isOf_0 : List UInt8 := dkwX8_isOf_0 ++ []
theorem dksX8_isOf_0 : cX8_isOf.data.toList.drop 0 = dktX8_isOf_0 := by decide +kernel
theorem dX8_isOf_0 : decode cX8_isOf 0 = .ok (.iload_n 0, 1) := dk_26 (dk_at dksX8_isOf_0 0 rfl rfl)
theorem dX8_isOf_1 : decode cX8_isOf 1 = .ok (.iload_n 1, 1) := dk_27 (dk_at dksX8_isOf_0 1 rfl rfl)
theorem dX8_isOf_2 : decode cX8_isOf 2 = .ok (.ishr, 1) := dk_122 (dk_at dksX8_isOf_0 2 rfl rfl)
theorem dX8_isOf_3 : decode cX8_isOf 3 = .ok (.iconst 1, 1) := dk_4 (dk_at dksX8_isOf_0 3 rfl rfl)
theorem dX8_isOf_4 : decode cX8_isOf 4 = .ok (.iand, 1) := dk_126 (dk_at dksX8_isOf_0 4 rfl rfl)
theorem dX8_isOf_5 : decode cX8_isOf 5 = .ok (.iconst 1, 1) := dk_4 (dk_at dksX8_isOf_0 5 rfl rfl)
theorem dX8_isOf_6 : decode cX8_isOf 6 = .ok (.if_icmp .ne 7, 3) := dk_160 0 7 (dk_at dksX8_isOf_0 6 rfl rfl)
theorem dX8_isOf_9 : decode cX8_isOf 9 = .ok (.iconst 1, 1) := dk_4 (dk_at dksX8_isOf_0 9 rfl rfl)
theorem dX8_isOf_10 : decode cX8_isOf 10 = .ok (.goto 4, 3) := dk_167 0 4 (dk_at dksX8_isOf_0 10 rfl rfl)
theorem dX8_isOf_13 : decode cX8_isOf 13 = .ok (.iconst 0, 1) := dk_3 (dk_at dksX8_isOf_0 13 rfl rfl)
theorem dX8_isOf_14 : decode cX8_isOf 14 = .ok (.ireturn, 1) := dk_172 (dk_at dksX8_isOf_0 14 rfl rfl)
abbrev cX8_isFigure : ByteArray := prog_21_method_22_code
def yX8_isFigure : MethodName := ⟨RX8, "isFigure", "()Z"⟩
def dkwX8_isFigure_1 : List UInt8 := [16, 48, 16, 57, 184, 0, 53, 153, 0, 7, 4, 167, 0, 4, 3, 172]
abbrev dktX8_isFigure_1 : List UInt8 := dkwX8_isFigure_1 ++ []
def dkwX8_isFigure_0 : List UInt8 := [42, 182, 0, 77, 42, 180, 0, 67, 42, 180, 0, 70, 162, 0, 25, 42, 42, 180, 0, 67, 182, 0, 73]
abbrev dktX8_isFigure_0 : List UInt8 := dkwX8_isFigure_0 ++ dktX8_isFigure_1
theorem dksX8_isFigure_0 : cX8_isFigure.data.toList.drop 0 = dktX8_isFigure_0 := by decide +kernel
theorem dksX8_isFigure_1 : cX8_isFigure.data.toList.drop 23 = dktX8_isFigure_1 := dk_seg dksX8_isFigure_0 23 rfl rfl
theorem dX8_isFigure_0 : decode cX8_isFigure 0 = .ok (.aload_n 0, 1) := dk_42 (dk_at dksX8_isFigure_0 0 rfl rfl)
theorem dX8_isFigure_1 : decode cX8_isFigure 1 = .ok (.invokevirtual 77, 3) := dk_182 0 77 (dk_at dksX8_isFigure_0 1 rfl rfl)
theorem dX8_isFigure_4 : decode cX8_isFigure 4 = .ok (.aload_n 0, 1) := dk_42 (dk_at dksX8_isFigure_0 4 rfl rfl)
theorem dX8_isFigure_5 : decode cX8_isFigure 5 = .ok (.getfield 67, 3) := dk_180 0 67 (dk_at dksX8_isFigure_0 5 rfl rfl)
theorem dX8_isFigure_8 : decode cX8_isFigure 8 = .ok (.aload_n 0, 1) := dk_42 (dk_at dksX8_isFigure_0 8 rfl rfl)
theorem dX8_isFigure_9 : decode cX8_isFigure 9 = .ok (.getfield 70, 3) := dk_180 0 70 (dk_at dksX8_isFigure_0 9 rfl rfl)
theorem dX8_isFigure_12 : decode cX8_isFigure 12 = .ok (.if_icmp .ge 25, 3) := dk_162 0 25 (dk_at dksX8_isFigure_0 12 rfl rfl)
theorem dX8_isFigure_15 : decode cX8_isFigure 15 = .ok (.aload_n 0, 1) := dk_42 (dk_at dksX8_isFigure_0 15 rfl rfl)
theorem dX8_isFigure_16 : decode cX8_isFigure 16 = .ok (.aload_n 0, 1) := dk_42 (dk_at dksX8_isFigure_0 16 rfl rfl)
theorem dX8_isFigure_17 : decode cX8_isFigure 17 = .ok (.getfield 67, 3) := dk_180 0 67 (dk_at dksX8_isFigure_0 17 rfl rfl)
theorem dX8_isFigure_20 : decode cX8_isFigure 20 = .ok (.invokevirtual 73, 3) := dk_182 0 73 (dk_at dksX8_isFigure_0 20 rfl rfl)
theorem dX8_isFigure_23 : decode cX8_isFigure 23 = .ok (.bipush 48, 2) := dk_16 48 (dk_at dksX8_isFigure_1 0 rfl rfl)
theorem dX8_isFigure_25 : decode cX8_isFigure 25 = .ok (.bipush 57, 2) := dk_16 57 (dk_at dksX8_isFigure_1 2 rfl rfl)
theorem dX8_isFigure_27 : decode cX8_isFigure 27 = .ok (.invokestatic 53, 3) := dk_184 0 53 (dk_at dksX8_isFigure_1 4 rfl rfl)
theorem dX8_isFigure_30 : decode cX8_isFigure 30 = .ok (.ifCond .eq 7, 3) := dk_153 0 7 (dk_at dksX8_isFigure_1 7 rfl rfl)
theorem dX8_isFigure_33 : decode cX8_isFigure 33 = .ok (.iconst 1, 1) := dk_4 (dk_at dksX8_isFigure_1 10 rfl rfl)
theorem dX8_isFigure_34 : decode cX8_isFigure 34 = .ok (.goto 4, 3) := dk_167 0 4 (dk_at dksX8_isFigure_1 11 rfl rfl)
theorem dX8_isFigure_37 : decode cX8_isFigure 37 = .ok (.iconst 0, 1) := dk_3 (dk_at dksX8_isFigure_1 14 rfl rfl)
theorem dX8_isFigure_38 : decode cX8_isFigure 38 = .ok (.ireturn, 1) := dk_172 (dk_at dksX8_isFigure_1 15 rfl rfl)
abbrev cX8_wedLine : ByteArray := prog_21_method_31_code
def yX8_wedLine : MethodName := ⟨RX8, "wedLine", "()V"⟩
def dkwX8_wedLine_1 : List UInt8 := [28, 182, 0, 100, 42, 28, 7, 27, 182, 0, 100, 177]
abbrev dktX8_wedLine_1 : List UInt8 := dkwX8_wedLine_1 ++ []
def dkwX8_wedLine_0 : List UInt8 := [42, 2, 182, 0, 115, 60, 42, 27, 182, 0, 115, 61, 42, 180, 0, 25, 2, 159, 0, 4, 177, 42, 27, 7]
abbrev dktX8_wedLine_0 : List UInt8 := dkwX8_wedLine_0 ++ dktX8_wedLine_1
theorem dksX8_wedLine_0 : cX8_wedLine.data.toList.drop 0 = dktX8_wedLine_0 := by decide +kernel
theorem dksX8_wedLine_1 : cX8_wedLine.data.toList.drop 24 = dktX8_wedLine_1 := dk_seg dksX8_wedLine_0 24 rfl rfl
theorem dX8_wedLine_0 : decode cX8_wedLine 0 = .ok (.aload_n 0, 1) := dk_42 (dk_at dksX8_wedLine_0 0 rfl rfl)
theorem dX8_wedLine_1 : decode cX8_wedLine 1 = .ok (.iconst (-1), 1) := dk_2 (dk_at dksX8_wedLine_0 1 rfl rfl)
theorem dX8_wedLine_2 : decode cX8_wedLine 2 = .ok (.invokevirtual 115, 3) := dk_182 0 115 (dk_at dksX8_wedLine_0 2 rfl rfl)
theorem dX8_wedLine_5 : decode cX8_wedLine 5 = .ok (.istore_n 1, 1) := dk_60 (dk_at dksX8_wedLine_0 5 rfl rfl)
theorem dX8_wedLine_6 : decode cX8_wedLine 6 = .ok (.aload_n 0, 1) := dk_42 (dk_at dksX8_wedLine_0 6 rfl rfl)
theorem dX8_wedLine_7 : decode cX8_wedLine 7 = .ok (.iload_n 1, 1) := dk_27 (dk_at dksX8_wedLine_0 7 rfl rfl)
theorem dX8_wedLine_8 : decode cX8_wedLine 8 = .ok (.invokevirtual 115, 3) := dk_182 0 115 (dk_at dksX8_wedLine_0 8 rfl rfl)
theorem dX8_wedLine_11 : decode cX8_wedLine 11 = .ok (.istore_n 2, 1) := dk_61 (dk_at dksX8_wedLine_0 11 rfl rfl)
theorem dX8_wedLine_12 : decode cX8_wedLine 12 = .ok (.aload_n 0, 1) := dk_42 (dk_at dksX8_wedLine_0 12 rfl rfl)
theorem dX8_wedLine_13 : decode cX8_wedLine 13 = .ok (.getfield 25, 3) := dk_180 0 25 (dk_at dksX8_wedLine_0 13 rfl rfl)
theorem dX8_wedLine_16 : decode cX8_wedLine 16 = .ok (.iconst (-1), 1) := dk_2 (dk_at dksX8_wedLine_0 16 rfl rfl)
theorem dX8_wedLine_17 : decode cX8_wedLine 17 = .ok (.if_icmp .eq 4, 3) := dk_159 0 4 (dk_at dksX8_wedLine_0 17 rfl rfl)
theorem dX8_wedLine_20 : decode cX8_wedLine 20 = .ok (.return_, 1) := dk_177 (dk_at dksX8_wedLine_0 20 rfl rfl)
theorem dX8_wedLine_21 : decode cX8_wedLine 21 = .ok (.aload_n 0, 1) := dk_42 (dk_at dksX8_wedLine_0 21 rfl rfl)
theorem dX8_wedLine_22 : decode cX8_wedLine 22 = .ok (.iload_n 1, 1) := dk_27 (dk_at dksX8_wedLine_0 22 rfl rfl)
theorem dX8_wedLine_23 : decode cX8_wedLine 23 = .ok (.iconst 4, 1) := dk_7 (dk_at dksX8_wedLine_0 23 rfl rfl)
theorem dX8_wedLine_24 : decode cX8_wedLine 24 = .ok (.iload_n 2, 1) := dk_28 (dk_at dksX8_wedLine_1 0 rfl rfl)
theorem dX8_wedLine_25 : decode cX8_wedLine 25 = .ok (.invokevirtual 100, 3) := dk_182 0 100 (dk_at dksX8_wedLine_1 1 rfl rfl)
theorem dX8_wedLine_28 : decode cX8_wedLine 28 = .ok (.aload_n 0, 1) := dk_42 (dk_at dksX8_wedLine_1 4 rfl rfl)
theorem dX8_wedLine_29 : decode cX8_wedLine 29 = .ok (.iload_n 2, 1) := dk_28 (dk_at dksX8_wedLine_1 5 rfl rfl)
theorem dX8_wedLine_30 : decode cX8_wedLine 30 = .ok (.iconst 4, 1) := dk_7 (dk_at dksX8_wedLine_1 6 rfl rfl)
theorem dX8_wedLine_31 : decode cX8_wedLine 31 = .ok (.iload_n 1, 1) := dk_27 (dk_at dksX8_wedLine_1 7 rfl rfl)
theorem dX8_wedLine_32 : decode cX8_wedLine 32 = .ok (.invokevirtual 100, 3) := dk_182 0 100 (dk_at dksX8_wedLine_1 8 rfl rfl)
theorem dX8_wedLine_35 : decode cX8_wedLine 35 = .ok (.return_, 1) := dk_177 (dk_at dksX8_wedLine_1 11 rfl rfl)
abbrev cX8_single : ByteArray := prog_21_method_30_code
def yX8_single : MethodName := ⟨RX8, "single", "(I)I"⟩
def dkwX8_single_2 : List UInt8 := [172]
abbrev dktX8_single_2 : List UInt8 := dkwX8_single_2 ++ []
def dkwX8_single_1 : List UInt8 := [160, 0, 23, 29, 27, 159, 0, 13, 42, 29, 7, 182, 0, 57, 2, 159, 0, 8, 42, 28, 182, 0, 93, 29]
abbrev dktX8_single_1 : List UInt8 := dkwX8_single_1 ++ dktX8_single_2
def dkwX8_single_0 : List UInt8 := [42, 182, 0, 90, 61, 42, 3, 42, 180, 0, 7, 6, 46, 4, 100, 182, 0, 104, 62, 42, 180, 0, 25, 2]
abbrev dktX8_single_0 : List UInt8 := dkwX8_single_0 ++ dktX8_single_1
theorem dksX8_single_0 : cX8_single.data.toList.drop 0 = dktX8_single_0 := by decide +kernel
theorem dksX8_single_1 : cX8_single.data.toList.drop 24 = dktX8_single_1 := dk_seg dksX8_single_0 24 rfl rfl
theorem dksX8_single_2 : cX8_single.data.toList.drop 48 = dktX8_single_2 := dk_seg dksX8_single_1 24 rfl rfl
theorem dX8_single_0 : decode cX8_single 0 = .ok (.aload_n 0, 1) := dk_42 (dk_at dksX8_single_0 0 rfl rfl)
theorem dX8_single_1 : decode cX8_single 1 = .ok (.invokevirtual 90, 3) := dk_182 0 90 (dk_at dksX8_single_0 1 rfl rfl)
theorem dX8_single_4 : decode cX8_single 4 = .ok (.istore_n 2, 1) := dk_61 (dk_at dksX8_single_0 4 rfl rfl)
theorem dX8_single_5 : decode cX8_single 5 = .ok (.aload_n 0, 1) := dk_42 (dk_at dksX8_single_0 5 rfl rfl)
theorem dX8_single_6 : decode cX8_single 6 = .ok (.iconst 0, 1) := dk_3 (dk_at dksX8_single_0 6 rfl rfl)
theorem dX8_single_7 : decode cX8_single 7 = .ok (.aload_n 0, 1) := dk_42 (dk_at dksX8_single_0 7 rfl rfl)
theorem dX8_single_8 : decode cX8_single 8 = .ok (.getfield 7, 3) := dk_180 0 7 (dk_at dksX8_single_0 8 rfl rfl)
theorem dX8_single_11 : decode cX8_single 11 = .ok (.iconst 3, 1) := dk_6 (dk_at dksX8_single_0 11 rfl rfl)
theorem dX8_single_12 : decode cX8_single 12 = .ok (.iaload, 1) := dk_46 (dk_at dksX8_single_0 12 rfl rfl)
theorem dX8_single_13 : decode cX8_single 13 = .ok (.iconst 1, 1) := dk_4 (dk_at dksX8_single_0 13 rfl rfl)
theorem dX8_single_14 : decode cX8_single 14 = .ok (.isub, 1) := dk_100 (dk_at dksX8_single_0 14 rfl rfl)
theorem dX8_single_15 : decode cX8_single 15 = .ok (.invokevirtual 104, 3) := dk_182 0 104 (dk_at dksX8_single_0 15 rfl rfl)
theorem dX8_single_18 : decode cX8_single 18 = .ok (.istore_n 3, 1) := dk_62 (dk_at dksX8_single_0 18 rfl rfl)
theorem dX8_single_19 : decode cX8_single 19 = .ok (.aload_n 0, 1) := dk_42 (dk_at dksX8_single_0 19 rfl rfl)
theorem dX8_single_20 : decode cX8_single 20 = .ok (.getfield 25, 3) := dk_180 0 25 (dk_at dksX8_single_0 20 rfl rfl)
theorem dX8_single_23 : decode cX8_single 23 = .ok (.iconst (-1), 1) := dk_2 (dk_at dksX8_single_0 23 rfl rfl)
theorem dX8_single_24 : decode cX8_single 24 = .ok (.if_icmp .ne 23, 3) := dk_160 0 23 (dk_at dksX8_single_1 0 rfl rfl)
theorem dX8_single_27 : decode cX8_single 27 = .ok (.iload_n 3, 1) := dk_29 (dk_at dksX8_single_1 3 rfl rfl)
theorem dX8_single_28 : decode cX8_single 28 = .ok (.iload_n 1, 1) := dk_27 (dk_at dksX8_single_1 4 rfl rfl)
theorem dX8_single_29 : decode cX8_single 29 = .ok (.if_icmp .eq 13, 3) := dk_159 0 13 (dk_at dksX8_single_1 5 rfl rfl)
theorem dX8_single_32 : decode cX8_single 32 = .ok (.aload_n 0, 1) := dk_42 (dk_at dksX8_single_1 8 rfl rfl)
theorem dX8_single_33 : decode cX8_single 33 = .ok (.iload_n 3, 1) := dk_29 (dk_at dksX8_single_1 9 rfl rfl)
theorem dX8_single_34 : decode cX8_single 34 = .ok (.iconst 4, 1) := dk_7 (dk_at dksX8_single_1 10 rfl rfl)
theorem dX8_single_35 : decode cX8_single 35 = .ok (.invokevirtual 57, 3) := dk_182 0 57 (dk_at dksX8_single_1 11 rfl rfl)
theorem dX8_single_38 : decode cX8_single 38 = .ok (.iconst (-1), 1) := dk_2 (dk_at dksX8_single_1 14 rfl rfl)
theorem dX8_single_39 : decode cX8_single 39 = .ok (.if_icmp .eq 8, 3) := dk_159 0 8 (dk_at dksX8_single_1 15 rfl rfl)
theorem dX8_single_42 : decode cX8_single 42 = .ok (.aload_n 0, 1) := dk_42 (dk_at dksX8_single_1 18 rfl rfl)
theorem dX8_single_43 : decode cX8_single 43 = .ok (.iload_n 2, 1) := dk_28 (dk_at dksX8_single_1 19 rfl rfl)
theorem dX8_single_44 : decode cX8_single 44 = .ok (.invokevirtual 93, 3) := dk_182 0 93 (dk_at dksX8_single_1 20 rfl rfl)
theorem dX8_single_47 : decode cX8_single 47 = .ok (.iload_n 3, 1) := dk_29 (dk_at dksX8_single_1 23 rfl rfl)
theorem dX8_single_48 : decode cX8_single 48 = .ok (.ireturn, 1) := dk_172 (dk_at dksX8_single_2 0 rfl rfl)
abbrev cX8_of : ByteArray := prog_21_method_8_code
def yX8_of : MethodName := ⟨RX8, "of", "(II)I"⟩
def dkwX8_of_0 : List UInt8 := [42, 180, 0, 7, 16, 12, 16, 6, 27, 104, 96, 28, 96, 46, 172]
abbrev dktX8_of_0 : List UInt8 := dkwX8_of_0 ++ []
theorem dksX8_of_0 : cX8_of.data.toList.drop 0 = dktX8_of_0 := by decide +kernel
theorem dX8_of_0 : decode cX8_of 0 = .ok (.aload_n 0, 1) := dk_42 (dk_at dksX8_of_0 0 rfl rfl)
theorem dX8_of_1 : decode cX8_of 1 = .ok (.getfield 7, 3) := dk_180 0 7 (dk_at dksX8_of_0 1 rfl rfl)
theorem dX8_of_4 : decode cX8_of 4 = .ok (.bipush 12, 2) := dk_16 12 (dk_at dksX8_of_0 4 rfl rfl)
theorem dX8_of_6 : decode cX8_of 6 = .ok (.bipush 6, 2) := dk_16 6 (dk_at dksX8_of_0 6 rfl rfl)
theorem dX8_of_8 : decode cX8_of 8 = .ok (.iload_n 1, 1) := dk_27 (dk_at dksX8_of_0 8 rfl rfl)
theorem dX8_of_9 : decode cX8_of 9 = .ok (.imul, 1) := dk_104 (dk_at dksX8_of_0 9 rfl rfl)
theorem dX8_of_10 : decode cX8_of 10 = .ok (.iadd, 1) := dk_96 (dk_at dksX8_of_0 10 rfl rfl)
theorem dX8_of_11 : decode cX8_of 11 = .ok (.iload_n 2, 1) := dk_28 (dk_at dksX8_of_0 11 rfl rfl)
theorem dX8_of_12 : decode cX8_of 12 = .ok (.iadd, 1) := dk_96 (dk_at dksX8_of_0 12 rfl rfl)
theorem dX8_of_13 : decode cX8_of 13 = .ok (.iaload, 1) := dk_46 (dk_at dksX8_of_0 13 rfl rfl)
theorem dX8_of_14 : decode cX8_of 14 = .ok (.ireturn, 1) := dk_172 (dk_at dksX8_of_0 14 rfl rfl)
abbrev cX8_knowsLine : ByteArray := prog_21_method_32_code
def yX8_knowsLine : MethodName := ⟨RX8, "knowsLine", "()V"⟩
def dkwX8_knowsLine_5 : List UInt8 := [167, 255, 167, 177]
abbrev dktX8_knowsLine_5 : List UInt8 := dkwX8_knowsLine_5 ++ []
def dkwX8_knowsLine_4 : List UInt8 := [182, 0, 100, 42, 180, 0, 25, 2, 160, 0, 14, 42, 182, 0, 111, 153, 0, 7, 4, 167, 0, 4, 3, 61]
abbrev dktX8_knowsLine_4 : List UInt8 := dkwX8_knowsLine_4 ++ dktX8_knowsLine_5
def dkwX8_knowsLine_3 : List UInt8 := [42, 180, 0, 25, 2, 160, 0, 20, 42, 27, 8, 42, 27, 8, 182, 0, 57, 4, 21, 4, 120, 128]
abbrev dktX8_knowsLine_3 : List UInt8 := dkwX8_knowsLine_3 ++ dktX8_knowsLine_4
def dkwX8_knowsLine_2 : List UInt8 := [182, 0, 104, 54, 4, 42, 180, 0, 25, 2, 160, 0, 14, 21, 4, 27, 160, 0, 8, 42, 29, 182, 0, 93]
abbrev dktX8_knowsLine_2 : List UInt8 := dkwX8_knowsLine_2 ++ dktX8_knowsLine_3
def dkwX8_knowsLine_1 : List UInt8 := [167, 0, 4, 3, 61, 28, 153, 0, 91, 42, 182, 0, 90, 62, 42, 3, 42, 180, 0, 7, 6, 46, 4, 100]
abbrev dktX8_knowsLine_1 : List UInt8 := dkwX8_knowsLine_1 ++ dktX8_knowsLine_2
def dkwX8_knowsLine_0 : List UInt8 := [42, 3, 42, 180, 0, 7, 6, 46, 4, 100, 182, 0, 104, 60, 42, 180, 0, 25, 2, 160, 0, 7, 4]
abbrev dktX8_knowsLine_0 : List UInt8 := dkwX8_knowsLine_0 ++ dktX8_knowsLine_1
theorem dksX8_knowsLine_0 : cX8_knowsLine.data.toList.drop 0 = dktX8_knowsLine_0 := by decide +kernel
theorem dksX8_knowsLine_1 : cX8_knowsLine.data.toList.drop 23 = dktX8_knowsLine_1 := dk_seg dksX8_knowsLine_0 23 rfl rfl
theorem dksX8_knowsLine_2 : cX8_knowsLine.data.toList.drop 47 = dktX8_knowsLine_2 := dk_seg dksX8_knowsLine_1 24 rfl rfl
theorem dksX8_knowsLine_3 : cX8_knowsLine.data.toList.drop 71 = dktX8_knowsLine_3 := dk_seg dksX8_knowsLine_2 24 rfl rfl
theorem dksX8_knowsLine_4 : cX8_knowsLine.data.toList.drop 93 = dktX8_knowsLine_4 := dk_seg dksX8_knowsLine_3 22 rfl rfl
theorem dksX8_knowsLine_5 : cX8_knowsLine.data.toList.drop 117 = dktX8_knowsLine_5 := dk_seg dksX8_knowsLine_4 24 rfl rfl
theorem dX8_knowsLine_0 : decode cX8_knowsLine 0 = .ok (.aload_n 0, 1) := dk_42 (dk_at dksX8_knowsLine_0 0 rfl rfl)
theorem dX8_knowsLine_1 : decode cX8_knowsLine 1 = .ok (.iconst 0, 1) := dk_3 (dk_at dksX8_knowsLine_0 1 rfl rfl)
theorem dX8_knowsLine_2 : decode cX8_knowsLine 2 = .ok (.aload_n 0, 1) := dk_42 (dk_at dksX8_knowsLine_0 2 rfl rfl)
theorem dX8_knowsLine_3 : decode cX8_knowsLine 3 = .ok (.getfield 7, 3) := dk_180 0 7 (dk_at dksX8_knowsLine_0 3 rfl rfl)
theorem dX8_knowsLine_6 : decode cX8_knowsLine 6 = .ok (.iconst 3, 1) := dk_6 (dk_at dksX8_knowsLine_0 6 rfl rfl)
theorem dX8_knowsLine_7 : decode cX8_knowsLine 7 = .ok (.iaload, 1) := dk_46 (dk_at dksX8_knowsLine_0 7 rfl rfl)
theorem dX8_knowsLine_8 : decode cX8_knowsLine 8 = .ok (.iconst 1, 1) := dk_4 (dk_at dksX8_knowsLine_0 8 rfl rfl)
theorem dX8_knowsLine_9 : decode cX8_knowsLine 9 = .ok (.isub, 1) := dk_100 (dk_at dksX8_knowsLine_0 9 rfl rfl)
theorem dX8_knowsLine_10 : decode cX8_knowsLine 10 = .ok (.invokevirtual 104, 3) := dk_182 0 104 (dk_at dksX8_knowsLine_0 10 rfl rfl)
theorem dX8_knowsLine_13 : decode cX8_knowsLine 13 = .ok (.istore_n 1, 1) := dk_60 (dk_at dksX8_knowsLine_0 13 rfl rfl)
theorem dX8_knowsLine_14 : decode cX8_knowsLine 14 = .ok (.aload_n 0, 1) := dk_42 (dk_at dksX8_knowsLine_0 14 rfl rfl)
theorem dX8_knowsLine_15 : decode cX8_knowsLine 15 = .ok (.getfield 25, 3) := dk_180 0 25 (dk_at dksX8_knowsLine_0 15 rfl rfl)
theorem dX8_knowsLine_18 : decode cX8_knowsLine 18 = .ok (.iconst (-1), 1) := dk_2 (dk_at dksX8_knowsLine_0 18 rfl rfl)
theorem dX8_knowsLine_19 : decode cX8_knowsLine 19 = .ok (.if_icmp .ne 7, 3) := dk_160 0 7 (dk_at dksX8_knowsLine_0 19 rfl rfl)
theorem dX8_knowsLine_22 : decode cX8_knowsLine 22 = .ok (.iconst 1, 1) := dk_4 (dk_at dksX8_knowsLine_0 22 rfl rfl)
theorem dX8_knowsLine_23 : decode cX8_knowsLine 23 = .ok (.goto 4, 3) := dk_167 0 4 (dk_at dksX8_knowsLine_1 0 rfl rfl)
theorem dX8_knowsLine_26 : decode cX8_knowsLine 26 = .ok (.iconst 0, 1) := dk_3 (dk_at dksX8_knowsLine_1 3 rfl rfl)
theorem dX8_knowsLine_27 : decode cX8_knowsLine 27 = .ok (.istore_n 2, 1) := dk_61 (dk_at dksX8_knowsLine_1 4 rfl rfl)
theorem dX8_knowsLine_28 : decode cX8_knowsLine 28 = .ok (.iload_n 2, 1) := dk_28 (dk_at dksX8_knowsLine_1 5 rfl rfl)
theorem dX8_knowsLine_29 : decode cX8_knowsLine 29 = .ok (.ifCond .eq 91, 3) := dk_153 0 91 (dk_at dksX8_knowsLine_1 6 rfl rfl)
theorem dX8_knowsLine_32 : decode cX8_knowsLine 32 = .ok (.aload_n 0, 1) := dk_42 (dk_at dksX8_knowsLine_1 9 rfl rfl)
theorem dX8_knowsLine_33 : decode cX8_knowsLine 33 = .ok (.invokevirtual 90, 3) := dk_182 0 90 (dk_at dksX8_knowsLine_1 10 rfl rfl)
theorem dX8_knowsLine_36 : decode cX8_knowsLine 36 = .ok (.istore_n 3, 1) := dk_62 (dk_at dksX8_knowsLine_1 13 rfl rfl)
theorem dX8_knowsLine_37 : decode cX8_knowsLine 37 = .ok (.aload_n 0, 1) := dk_42 (dk_at dksX8_knowsLine_1 14 rfl rfl)
theorem dX8_knowsLine_38 : decode cX8_knowsLine 38 = .ok (.iconst 0, 1) := dk_3 (dk_at dksX8_knowsLine_1 15 rfl rfl)
theorem dX8_knowsLine_39 : decode cX8_knowsLine 39 = .ok (.aload_n 0, 1) := dk_42 (dk_at dksX8_knowsLine_1 16 rfl rfl)
theorem dX8_knowsLine_40 : decode cX8_knowsLine 40 = .ok (.getfield 7, 3) := dk_180 0 7 (dk_at dksX8_knowsLine_1 17 rfl rfl)
theorem dX8_knowsLine_43 : decode cX8_knowsLine 43 = .ok (.iconst 3, 1) := dk_6 (dk_at dksX8_knowsLine_1 20 rfl rfl)
theorem dX8_knowsLine_44 : decode cX8_knowsLine 44 = .ok (.iaload, 1) := dk_46 (dk_at dksX8_knowsLine_1 21 rfl rfl)
theorem dX8_knowsLine_45 : decode cX8_knowsLine 45 = .ok (.iconst 1, 1) := dk_4 (dk_at dksX8_knowsLine_1 22 rfl rfl)
theorem dX8_knowsLine_46 : decode cX8_knowsLine 46 = .ok (.isub, 1) := dk_100 (dk_at dksX8_knowsLine_1 23 rfl rfl)
theorem dX8_knowsLine_47 : decode cX8_knowsLine 47 = .ok (.invokevirtual 104, 3) := dk_182 0 104 (dk_at dksX8_knowsLine_2 0 rfl rfl)
theorem dX8_knowsLine_50 : decode cX8_knowsLine 50 = .ok (.istore 4, 2) := dk_54 4 (dk_at dksX8_knowsLine_2 3 rfl rfl)
theorem dX8_knowsLine_52 : decode cX8_knowsLine 52 = .ok (.aload_n 0, 1) := dk_42 (dk_at dksX8_knowsLine_2 5 rfl rfl)
theorem dX8_knowsLine_53 : decode cX8_knowsLine 53 = .ok (.getfield 25, 3) := dk_180 0 25 (dk_at dksX8_knowsLine_2 6 rfl rfl)
theorem dX8_knowsLine_56 : decode cX8_knowsLine 56 = .ok (.iconst (-1), 1) := dk_2 (dk_at dksX8_knowsLine_2 9 rfl rfl)
theorem dX8_knowsLine_57 : decode cX8_knowsLine 57 = .ok (.if_icmp .ne 14, 3) := dk_160 0 14 (dk_at dksX8_knowsLine_2 10 rfl rfl)
theorem dX8_knowsLine_60 : decode cX8_knowsLine 60 = .ok (.iload 4, 2) := dk_21 4 (dk_at dksX8_knowsLine_2 13 rfl rfl)
theorem dX8_knowsLine_62 : decode cX8_knowsLine 62 = .ok (.iload_n 1, 1) := dk_27 (dk_at dksX8_knowsLine_2 15 rfl rfl)
theorem dX8_knowsLine_63 : decode cX8_knowsLine 63 = .ok (.if_icmp .ne 8, 3) := dk_160 0 8 (dk_at dksX8_knowsLine_2 16 rfl rfl)
theorem dX8_knowsLine_66 : decode cX8_knowsLine 66 = .ok (.aload_n 0, 1) := dk_42 (dk_at dksX8_knowsLine_2 19 rfl rfl)
theorem dX8_knowsLine_67 : decode cX8_knowsLine 67 = .ok (.iload_n 3, 1) := dk_29 (dk_at dksX8_knowsLine_2 20 rfl rfl)
theorem dX8_knowsLine_68 : decode cX8_knowsLine 68 = .ok (.invokevirtual 93, 3) := dk_182 0 93 (dk_at dksX8_knowsLine_2 21 rfl rfl)
theorem dX8_knowsLine_71 : decode cX8_knowsLine 71 = .ok (.aload_n 0, 1) := dk_42 (dk_at dksX8_knowsLine_3 0 rfl rfl)
theorem dX8_knowsLine_72 : decode cX8_knowsLine 72 = .ok (.getfield 25, 3) := dk_180 0 25 (dk_at dksX8_knowsLine_3 1 rfl rfl)
theorem dX8_knowsLine_75 : decode cX8_knowsLine 75 = .ok (.iconst (-1), 1) := dk_2 (dk_at dksX8_knowsLine_3 4 rfl rfl)
theorem dX8_knowsLine_76 : decode cX8_knowsLine 76 = .ok (.if_icmp .ne 20, 3) := dk_160 0 20 (dk_at dksX8_knowsLine_3 5 rfl rfl)
theorem dX8_knowsLine_79 : decode cX8_knowsLine 79 = .ok (.aload_n 0, 1) := dk_42 (dk_at dksX8_knowsLine_3 8 rfl rfl)
theorem dX8_knowsLine_80 : decode cX8_knowsLine 80 = .ok (.iload_n 1, 1) := dk_27 (dk_at dksX8_knowsLine_3 9 rfl rfl)
theorem dX8_knowsLine_81 : decode cX8_knowsLine 81 = .ok (.iconst 5, 1) := dk_8 (dk_at dksX8_knowsLine_3 10 rfl rfl)
theorem dX8_knowsLine_82 : decode cX8_knowsLine 82 = .ok (.aload_n 0, 1) := dk_42 (dk_at dksX8_knowsLine_3 11 rfl rfl)
theorem dX8_knowsLine_83 : decode cX8_knowsLine 83 = .ok (.iload_n 1, 1) := dk_27 (dk_at dksX8_knowsLine_3 12 rfl rfl)
theorem dX8_knowsLine_84 : decode cX8_knowsLine 84 = .ok (.iconst 5, 1) := dk_8 (dk_at dksX8_knowsLine_3 13 rfl rfl)
theorem dX8_knowsLine_85 : decode cX8_knowsLine 85 = .ok (.invokevirtual 57, 3) := dk_182 0 57 (dk_at dksX8_knowsLine_3 14 rfl rfl)
theorem dX8_knowsLine_88 : decode cX8_knowsLine 88 = .ok (.iconst 1, 1) := dk_4 (dk_at dksX8_knowsLine_3 17 rfl rfl)
theorem dX8_knowsLine_89 : decode cX8_knowsLine 89 = .ok (.iload 4, 2) := dk_21 4 (dk_at dksX8_knowsLine_3 18 rfl rfl)
theorem dX8_knowsLine_91 : decode cX8_knowsLine 91 = .ok (.ishl, 1) := dk_120 (dk_at dksX8_knowsLine_3 20 rfl rfl)
theorem dX8_knowsLine_92 : decode cX8_knowsLine 92 = .ok (.ior, 1) := dk_128 (dk_at dksX8_knowsLine_3 21 rfl rfl)
theorem dX8_knowsLine_93 : decode cX8_knowsLine 93 = .ok (.invokevirtual 100, 3) := dk_182 0 100 (dk_at dksX8_knowsLine_4 0 rfl rfl)
theorem dX8_knowsLine_96 : decode cX8_knowsLine 96 = .ok (.aload_n 0, 1) := dk_42 (dk_at dksX8_knowsLine_4 3 rfl rfl)
theorem dX8_knowsLine_97 : decode cX8_knowsLine 97 = .ok (.getfield 25, 3) := dk_180 0 25 (dk_at dksX8_knowsLine_4 4 rfl rfl)
theorem dX8_knowsLine_100 : decode cX8_knowsLine 100 = .ok (.iconst (-1), 1) := dk_2 (dk_at dksX8_knowsLine_4 7 rfl rfl)
theorem dX8_knowsLine_101 : decode cX8_knowsLine 101 = .ok (.if_icmp .ne 14, 3) := dk_160 0 14 (dk_at dksX8_knowsLine_4 8 rfl rfl)
theorem dX8_knowsLine_104 : decode cX8_knowsLine 104 = .ok (.aload_n 0, 1) := dk_42 (dk_at dksX8_knowsLine_4 11 rfl rfl)
theorem dX8_knowsLine_105 : decode cX8_knowsLine 105 = .ok (.invokevirtual 111, 3) := dk_182 0 111 (dk_at dksX8_knowsLine_4 12 rfl rfl)
theorem dX8_knowsLine_108 : decode cX8_knowsLine 108 = .ok (.ifCond .eq 7, 3) := dk_153 0 7 (dk_at dksX8_knowsLine_4 15 rfl rfl)
theorem dX8_knowsLine_111 : decode cX8_knowsLine 111 = .ok (.iconst 1, 1) := dk_4 (dk_at dksX8_knowsLine_4 18 rfl rfl)
theorem dX8_knowsLine_112 : decode cX8_knowsLine 112 = .ok (.goto 4, 3) := dk_167 0 4 (dk_at dksX8_knowsLine_4 19 rfl rfl)
theorem dX8_knowsLine_115 : decode cX8_knowsLine 115 = .ok (.iconst 0, 1) := dk_3 (dk_at dksX8_knowsLine_4 22 rfl rfl)
theorem dX8_knowsLine_116 : decode cX8_knowsLine 116 = .ok (.istore_n 2, 1) := dk_61 (dk_at dksX8_knowsLine_4 23 rfl rfl)
theorem dX8_knowsLine_117 : decode cX8_knowsLine 117 = .ok (.goto (-89), 3) := dk_167 255 167 (dk_at dksX8_knowsLine_5 0 rfl rfl)
theorem dX8_knowsLine_120 : decode cX8_knowsLine 120 = .ok (.return_, 1) := dk_177 (dk_at dksX8_knowsLine_5 3 rfl rfl)
abbrev cX8_lastTaken : ByteArray := prog_21_method_33_code
def yX8_lastTaken : MethodName := ⟨RX8, "lastTaken", "()I"⟩
def dkwX8_lastTaken_1 : List UInt8 := [2, 160, 0, 11, 42, 28, 182, 0, 118, 153, 0, 5, 28, 60, 132, 2, 1, 167, 255, 219, 27, 172]
abbrev dktX8_lastTaken_1 : List UInt8 := dkwX8_lastTaken_1 ++ []
def dkwX8_lastTaken_0 : List UInt8 := [2, 60, 3, 61, 28, 42, 180, 0, 7, 7, 46, 162, 0, 33, 42, 180, 0, 7, 17, 1, 16, 28, 96, 46]
abbrev dktX8_lastTaken_0 : List UInt8 := dkwX8_lastTaken_0 ++ dktX8_lastTaken_1
theorem dksX8_lastTaken_0 : cX8_lastTaken.data.toList.drop 0 = dktX8_lastTaken_0 := by decide +kernel
theorem dksX8_lastTaken_1 : cX8_lastTaken.data.toList.drop 24 = dktX8_lastTaken_1 := dk_seg dksX8_lastTaken_0 24 rfl rfl
theorem dX8_lastTaken_0 : decode cX8_lastTaken 0 = .ok (.iconst (-1), 1) := dk_2 (dk_at dksX8_lastTaken_0 0 rfl rfl)
theorem dX8_lastTaken_1 : decode cX8_lastTaken 1 = .ok (.istore_n 1, 1) := dk_60 (dk_at dksX8_lastTaken_0 1 rfl rfl)
theorem dX8_lastTaken_2 : decode cX8_lastTaken 2 = .ok (.iconst 0, 1) := dk_3 (dk_at dksX8_lastTaken_0 2 rfl rfl)
theorem dX8_lastTaken_3 : decode cX8_lastTaken 3 = .ok (.istore_n 2, 1) := dk_61 (dk_at dksX8_lastTaken_0 3 rfl rfl)
theorem dX8_lastTaken_4 : decode cX8_lastTaken 4 = .ok (.iload_n 2, 1) := dk_28 (dk_at dksX8_lastTaken_0 4 rfl rfl)
theorem dX8_lastTaken_5 : decode cX8_lastTaken 5 = .ok (.aload_n 0, 1) := dk_42 (dk_at dksX8_lastTaken_0 5 rfl rfl)
theorem dX8_lastTaken_6 : decode cX8_lastTaken 6 = .ok (.getfield 7, 3) := dk_180 0 7 (dk_at dksX8_lastTaken_0 6 rfl rfl)
theorem dX8_lastTaken_9 : decode cX8_lastTaken 9 = .ok (.iconst 4, 1) := dk_7 (dk_at dksX8_lastTaken_0 9 rfl rfl)
theorem dX8_lastTaken_10 : decode cX8_lastTaken 10 = .ok (.iaload, 1) := dk_46 (dk_at dksX8_lastTaken_0 10 rfl rfl)
theorem dX8_lastTaken_11 : decode cX8_lastTaken 11 = .ok (.if_icmp .ge 33, 3) := dk_162 0 33 (dk_at dksX8_lastTaken_0 11 rfl rfl)
theorem dX8_lastTaken_14 : decode cX8_lastTaken 14 = .ok (.aload_n 0, 1) := dk_42 (dk_at dksX8_lastTaken_0 14 rfl rfl)
theorem dX8_lastTaken_15 : decode cX8_lastTaken 15 = .ok (.getfield 7, 3) := dk_180 0 7 (dk_at dksX8_lastTaken_0 15 rfl rfl)
theorem dX8_lastTaken_18 : decode cX8_lastTaken 18 = .ok (.sipush 272, 3) := dk_17 1 16 (dk_at dksX8_lastTaken_0 18 rfl rfl)
theorem dX8_lastTaken_21 : decode cX8_lastTaken 21 = .ok (.iload_n 2, 1) := dk_28 (dk_at dksX8_lastTaken_0 21 rfl rfl)
theorem dX8_lastTaken_22 : decode cX8_lastTaken 22 = .ok (.iadd, 1) := dk_96 (dk_at dksX8_lastTaken_0 22 rfl rfl)
theorem dX8_lastTaken_23 : decode cX8_lastTaken 23 = .ok (.iaload, 1) := dk_46 (dk_at dksX8_lastTaken_0 23 rfl rfl)
theorem dX8_lastTaken_24 : decode cX8_lastTaken 24 = .ok (.iconst (-1), 1) := dk_2 (dk_at dksX8_lastTaken_1 0 rfl rfl)
theorem dX8_lastTaken_25 : decode cX8_lastTaken 25 = .ok (.if_icmp .ne 11, 3) := dk_160 0 11 (dk_at dksX8_lastTaken_1 1 rfl rfl)
theorem dX8_lastTaken_28 : decode cX8_lastTaken 28 = .ok (.aload_n 0, 1) := dk_42 (dk_at dksX8_lastTaken_1 4 rfl rfl)
theorem dX8_lastTaken_29 : decode cX8_lastTaken 29 = .ok (.iload_n 2, 1) := dk_28 (dk_at dksX8_lastTaken_1 5 rfl rfl)
theorem dX8_lastTaken_30 : decode cX8_lastTaken 30 = .ok (.invokevirtual 118, 3) := dk_182 0 118 (dk_at dksX8_lastTaken_1 6 rfl rfl)
theorem dX8_lastTaken_33 : decode cX8_lastTaken 33 = .ok (.ifCond .eq 5, 3) := dk_153 0 5 (dk_at dksX8_lastTaken_1 9 rfl rfl)
theorem dX8_lastTaken_36 : decode cX8_lastTaken 36 = .ok (.iload_n 2, 1) := dk_28 (dk_at dksX8_lastTaken_1 12 rfl rfl)
theorem dX8_lastTaken_37 : decode cX8_lastTaken 37 = .ok (.istore_n 1, 1) := dk_60 (dk_at dksX8_lastTaken_1 13 rfl rfl)
theorem dX8_lastTaken_38 : decode cX8_lastTaken 38 = .ok (.iinc 2 1, 3) := dk_132 2 1 (dk_at dksX8_lastTaken_1 14 rfl rfl)
theorem dX8_lastTaken_41 : decode cX8_lastTaken 41 = .ok (.goto (-37), 3) := dk_167 255 219 (dk_at dksX8_lastTaken_1 17 rfl rfl)
theorem dX8_lastTaken_44 : decode cX8_lastTaken 44 = .ok (.iload_n 1, 1) := dk_27 (dk_at dksX8_lastTaken_1 20 rfl rfl)
theorem dX8_lastTaken_45 : decode cX8_lastTaken 45 = .ok (.ireturn, 1) := dk_172 (dk_at dksX8_lastTaken_1 21 rfl rfl)
abbrev cX8_hasTicketOf : ByteArray := prog_21_method_16_code
def yX8_hasTicketOf : MethodName := ⟨RX8, "hasTicketOf", "(I)Z"⟩
def dkwX8_hasTicketOf_1 : List UInt8 := [132, 2, 1, 167, 255, 231, 3, 172]
abbrev dktX8_hasTicketOf_1 : List UInt8 := dkwX8_hasTicketOf_1 ++ []
def dkwX8_hasTicketOf_0 : List UInt8 := [3, 61, 28, 42, 180, 0, 7, 6, 46, 162, 0, 21, 42, 28, 6, 182, 0, 57, 27, 160, 0, 5, 4, 172]
abbrev dktX8_hasTicketOf_0 : List UInt8 := dkwX8_hasTicketOf_0 ++ dktX8_hasTicketOf_1
theorem dksX8_hasTicketOf_0 : cX8_hasTicketOf.data.toList.drop 0 = dktX8_hasTicketOf_0 := by decide +kernel
theorem dksX8_hasTicketOf_1 : cX8_hasTicketOf.data.toList.drop 24 = dktX8_hasTicketOf_1 := dk_seg dksX8_hasTicketOf_0 24 rfl rfl
theorem dX8_hasTicketOf_0 : decode cX8_hasTicketOf 0 = .ok (.iconst 0, 1) := dk_3 (dk_at dksX8_hasTicketOf_0 0 rfl rfl)
theorem dX8_hasTicketOf_1 : decode cX8_hasTicketOf 1 = .ok (.istore_n 2, 1) := dk_61 (dk_at dksX8_hasTicketOf_0 1 rfl rfl)
theorem dX8_hasTicketOf_2 : decode cX8_hasTicketOf 2 = .ok (.iload_n 2, 1) := dk_28 (dk_at dksX8_hasTicketOf_0 2 rfl rfl)
theorem dX8_hasTicketOf_3 : decode cX8_hasTicketOf 3 = .ok (.aload_n 0, 1) := dk_42 (dk_at dksX8_hasTicketOf_0 3 rfl rfl)
theorem dX8_hasTicketOf_4 : decode cX8_hasTicketOf 4 = .ok (.getfield 7, 3) := dk_180 0 7 (dk_at dksX8_hasTicketOf_0 4 rfl rfl)
theorem dX8_hasTicketOf_7 : decode cX8_hasTicketOf 7 = .ok (.iconst 3, 1) := dk_6 (dk_at dksX8_hasTicketOf_0 7 rfl rfl)
theorem dX8_hasTicketOf_8 : decode cX8_hasTicketOf 8 = .ok (.iaload, 1) := dk_46 (dk_at dksX8_hasTicketOf_0 8 rfl rfl)
theorem dX8_hasTicketOf_9 : decode cX8_hasTicketOf 9 = .ok (.if_icmp .ge 21, 3) := dk_162 0 21 (dk_at dksX8_hasTicketOf_0 9 rfl rfl)
theorem dX8_hasTicketOf_12 : decode cX8_hasTicketOf 12 = .ok (.aload_n 0, 1) := dk_42 (dk_at dksX8_hasTicketOf_0 12 rfl rfl)
theorem dX8_hasTicketOf_13 : decode cX8_hasTicketOf 13 = .ok (.iload_n 2, 1) := dk_28 (dk_at dksX8_hasTicketOf_0 13 rfl rfl)
theorem dX8_hasTicketOf_14 : decode cX8_hasTicketOf 14 = .ok (.iconst 3, 1) := dk_6 (dk_at dksX8_hasTicketOf_0 14 rfl rfl)
theorem dX8_hasTicketOf_15 : decode cX8_hasTicketOf 15 = .ok (.invokevirtual 57, 3) := dk_182 0 57 (dk_at dksX8_hasTicketOf_0 15 rfl rfl)
theorem dX8_hasTicketOf_18 : decode cX8_hasTicketOf 18 = .ok (.iload_n 1, 1) := dk_27 (dk_at dksX8_hasTicketOf_0 18 rfl rfl)
theorem dX8_hasTicketOf_19 : decode cX8_hasTicketOf 19 = .ok (.if_icmp .ne 5, 3) := dk_160 0 5 (dk_at dksX8_hasTicketOf_0 19 rfl rfl)
theorem dX8_hasTicketOf_22 : decode cX8_hasTicketOf 22 = .ok (.iconst 1, 1) := dk_4 (dk_at dksX8_hasTicketOf_0 22 rfl rfl)
theorem dX8_hasTicketOf_23 : decode cX8_hasTicketOf 23 = .ok (.ireturn, 1) := dk_172 (dk_at dksX8_hasTicketOf_0 23 rfl rfl)
theorem dX8_hasTicketOf_24 : decode cX8_hasTicketOf 24 = .ok (.iinc 2 1, 3) := dk_132 2 1 (dk_at dksX8_hasTicketOf_1 0 rfl rfl)
theorem dX8_hasTicketOf_27 : decode cX8_hasTicketOf 27 = .ok (.goto (-25), 3) := dk_167 255 231 (dk_at dksX8_hasTicketOf_1 3 rfl rfl)
theorem dX8_hasTicketOf_30 : decode cX8_hasTicketOf 30 = .ok (.iconst 0, 1) := dk_3 (dk_at dksX8_hasTicketOf_1 6 rfl rfl)
theorem dX8_hasTicketOf_31 : decode cX8_hasTicketOf 31 = .ok (.ireturn, 1) := dk_172 (dk_at dksX8_hasTicketOf_1 7 rfl rfl)
abbrev cX8_greater : ByteArray := prog_21_method_5_code
def yX8_greater : MethodName := ⟨RX8, "greater", "(II)I"⟩
def dkwX8_greater_0 : List UInt8 := [26, 27, 164, 0, 7, 26, 167, 0, 4, 27, 172]
abbrev dktX8_greater_0 : List UInt8 := dkwX8_greater_0 ++ []
theorem dksX8_greater_0 : cX8_greater.data.toList.drop 0 = dktX8_greater_0 := by decide +kernel
theorem dX8_greater_0 : decode cX8_greater 0 = .ok (.iload_n 0, 1) := dk_26 (dk_at dksX8_greater_0 0 rfl rfl)
theorem dX8_greater_1 : decode cX8_greater 1 = .ok (.iload_n 1, 1) := dk_27 (dk_at dksX8_greater_0 1 rfl rfl)
theorem dX8_greater_2 : decode cX8_greater 2 = .ok (.if_icmp .le 7, 3) := dk_164 0 7 (dk_at dksX8_greater_0 2 rfl rfl)
theorem dX8_greater_5 : decode cX8_greater 5 = .ok (.iload_n 0, 1) := dk_26 (dk_at dksX8_greater_0 5 rfl rfl)
theorem dX8_greater_6 : decode cX8_greater 6 = .ok (.goto 4, 3) := dk_167 0 4 (dk_at dksX8_greater_0 6 rfl rfl)
theorem dX8_greater_9 : decode cX8_greater 9 = .ok (.iload_n 1, 1) := dk_27 (dk_at dksX8_greater_0 9 rfl rfl)
theorem dX8_greater_10 : decode cX8_greater 10 = .ok (.ireturn, 1) := dk_172 (dk_at dksX8_greater_0 10 rfl rfl)
abbrev cX8_comesBack : ByteArray := prog_21_method_38_code
def yX8_comesBack : MethodName := ⟨RX8, "comesBack", "()V"⟩
def dkwX8_comesBack_1 : List UInt8 := [167, 255, 234, 177]
abbrev dktX8_comesBack_1 : List UInt8 := dkwX8_comesBack_1 ++ []
def dkwX8_comesBack_0 : List UInt8 := [3, 60, 27, 17, 2, 72, 162, 0, 21, 42, 180, 0, 7, 27, 42, 180, 0, 16, 27, 46, 79, 132, 1, 1]
abbrev dktX8_comesBack_0 : List UInt8 := dkwX8_comesBack_0 ++ dktX8_comesBack_1
theorem dksX8_comesBack_0 : cX8_comesBack.data.toList.drop 0 = dktX8_comesBack_0 := by decide +kernel
theorem dksX8_comesBack_1 : cX8_comesBack.data.toList.drop 24 = dktX8_comesBack_1 := dk_seg dksX8_comesBack_0 24 rfl rfl
theorem dX8_comesBack_0 : decode cX8_comesBack 0 = .ok (.iconst 0, 1) := dk_3 (dk_at dksX8_comesBack_0 0 rfl rfl)
theorem dX8_comesBack_1 : decode cX8_comesBack 1 = .ok (.istore_n 1, 1) := dk_60 (dk_at dksX8_comesBack_0 1 rfl rfl)
theorem dX8_comesBack_2 : decode cX8_comesBack 2 = .ok (.iload_n 1, 1) := dk_27 (dk_at dksX8_comesBack_0 2 rfl rfl)
theorem dX8_comesBack_3 : decode cX8_comesBack 3 = .ok (.sipush 584, 3) := dk_17 2 72 (dk_at dksX8_comesBack_0 3 rfl rfl)
theorem dX8_comesBack_6 : decode cX8_comesBack 6 = .ok (.if_icmp .ge 21, 3) := dk_162 0 21 (dk_at dksX8_comesBack_0 6 rfl rfl)
theorem dX8_comesBack_9 : decode cX8_comesBack 9 = .ok (.aload_n 0, 1) := dk_42 (dk_at dksX8_comesBack_0 9 rfl rfl)
theorem dX8_comesBack_10 : decode cX8_comesBack 10 = .ok (.getfield 7, 3) := dk_180 0 7 (dk_at dksX8_comesBack_0 10 rfl rfl)
theorem dX8_comesBack_13 : decode cX8_comesBack 13 = .ok (.iload_n 1, 1) := dk_27 (dk_at dksX8_comesBack_0 13 rfl rfl)
theorem dX8_comesBack_14 : decode cX8_comesBack 14 = .ok (.aload_n 0, 1) := dk_42 (dk_at dksX8_comesBack_0 14 rfl rfl)
theorem dX8_comesBack_15 : decode cX8_comesBack 15 = .ok (.getfield 16, 3) := dk_180 0 16 (dk_at dksX8_comesBack_0 15 rfl rfl)
theorem dX8_comesBack_18 : decode cX8_comesBack 18 = .ok (.iload_n 1, 1) := dk_27 (dk_at dksX8_comesBack_0 18 rfl rfl)
theorem dX8_comesBack_19 : decode cX8_comesBack 19 = .ok (.iaload, 1) := dk_46 (dk_at dksX8_comesBack_0 19 rfl rfl)
theorem dX8_comesBack_20 : decode cX8_comesBack 20 = .ok (.iastore, 1) := dk_79 (dk_at dksX8_comesBack_0 20 rfl rfl)
theorem dX8_comesBack_21 : decode cX8_comesBack 21 = .ok (.iinc 1 1, 3) := dk_132 1 1 (dk_at dksX8_comesBack_0 21 rfl rfl)
theorem dX8_comesBack_24 : decode cX8_comesBack 24 = .ok (.goto (-22), 3) := dk_167 255 234 (dk_at dksX8_comesBack_1 0 rfl rfl)
theorem dX8_comesBack_27 : decode cX8_comesBack 27 = .ok (.return_, 1) := dk_177 (dk_at dksX8_comesBack_1 3 rfl rfl)
abbrev cX8_law : ByteArray := prog_21_method_47_code
def yX8_law : MethodName := ⟨RX8, "law", "()I"⟩
def dkwX8_law_3 : List UInt8 := [42, 180, 0, 22, 28, 46, 79, 132, 2, 1, 167, 255, 229, 42, 3, 181, 0, 182, 27, 172]
abbrev dktX8_law_3 : List UInt8 := dkwX8_law_3 ++ []
def dkwX8_law_2 : List UInt8 := [42, 180, 0, 70, 79, 3, 61, 28, 42, 180, 0, 70, 162, 0, 25, 42, 180, 0, 7, 17, 2, 72, 28, 96]
abbrev dktX8_law_2 : List UInt8 := dkwX8_law_2 ++ dktX8_law_3
def dkwX8_law_1 : List UInt8 := [181, 0, 50, 42, 180, 0, 50, 158, 0, 5, 3, 172, 42, 180, 0, 7, 4, 27, 79, 42, 180, 0, 7, 5]
abbrev dktX8_law_1 : List UInt8 := dkwX8_law_1 ++ dktX8_law_2
def dkwX8_law_0 : List UInt8 := [42, 182, 0, 172, 42, 4, 182, 0, 175, 60, 42, 42, 180, 0, 25, 2, 159, 0, 7, 4, 167, 0, 4, 3]
abbrev dktX8_law_0 : List UInt8 := dkwX8_law_0 ++ dktX8_law_1
theorem dksX8_law_0 : cX8_law.data.toList.drop 0 = dktX8_law_0 := by decide +kernel
theorem dksX8_law_1 : cX8_law.data.toList.drop 24 = dktX8_law_1 := dk_seg dksX8_law_0 24 rfl rfl
theorem dksX8_law_2 : cX8_law.data.toList.drop 48 = dktX8_law_2 := dk_seg dksX8_law_1 24 rfl rfl
theorem dksX8_law_3 : cX8_law.data.toList.drop 72 = dktX8_law_3 := dk_seg dksX8_law_2 24 rfl rfl
theorem dX8_law_0 : decode cX8_law 0 = .ok (.aload_n 0, 1) := dk_42 (dk_at dksX8_law_0 0 rfl rfl)
theorem dX8_law_1 : decode cX8_law 1 = .ok (.invokevirtual 172, 3) := dk_182 0 172 (dk_at dksX8_law_0 1 rfl rfl)
theorem dX8_law_4 : decode cX8_law 4 = .ok (.aload_n 0, 1) := dk_42 (dk_at dksX8_law_0 4 rfl rfl)
theorem dX8_law_5 : decode cX8_law 5 = .ok (.iconst 1, 1) := dk_4 (dk_at dksX8_law_0 5 rfl rfl)
theorem dX8_law_6 : decode cX8_law 6 = .ok (.invokevirtual 175, 3) := dk_182 0 175 (dk_at dksX8_law_0 6 rfl rfl)
theorem dX8_law_9 : decode cX8_law 9 = .ok (.istore_n 1, 1) := dk_60 (dk_at dksX8_law_0 9 rfl rfl)
theorem dX8_law_10 : decode cX8_law 10 = .ok (.aload_n 0, 1) := dk_42 (dk_at dksX8_law_0 10 rfl rfl)
theorem dX8_law_11 : decode cX8_law 11 = .ok (.aload_n 0, 1) := dk_42 (dk_at dksX8_law_0 11 rfl rfl)
theorem dX8_law_12 : decode cX8_law 12 = .ok (.getfield 25, 3) := dk_180 0 25 (dk_at dksX8_law_0 12 rfl rfl)
theorem dX8_law_15 : decode cX8_law 15 = .ok (.iconst (-1), 1) := dk_2 (dk_at dksX8_law_0 15 rfl rfl)
theorem dX8_law_16 : decode cX8_law 16 = .ok (.if_icmp .eq 7, 3) := dk_159 0 7 (dk_at dksX8_law_0 16 rfl rfl)
theorem dX8_law_19 : decode cX8_law 19 = .ok (.iconst 1, 1) := dk_4 (dk_at dksX8_law_0 19 rfl rfl)
theorem dX8_law_20 : decode cX8_law 20 = .ok (.goto 4, 3) := dk_167 0 4 (dk_at dksX8_law_0 20 rfl rfl)
theorem dX8_law_23 : decode cX8_law 23 = .ok (.iconst 0, 1) := dk_3 (dk_at dksX8_law_0 23 rfl rfl)
theorem dX8_law_24 : decode cX8_law 24 = .ok (.putfield 50, 3) := dk_181 0 50 (dk_at dksX8_law_1 0 rfl rfl)
theorem dX8_law_27 : decode cX8_law 27 = .ok (.aload_n 0, 1) := dk_42 (dk_at dksX8_law_1 3 rfl rfl)
theorem dX8_law_28 : decode cX8_law 28 = .ok (.getfield 50, 3) := dk_180 0 50 (dk_at dksX8_law_1 4 rfl rfl)
theorem dX8_law_31 : decode cX8_law 31 = .ok (.ifCond .le 5, 3) := dk_158 0 5 (dk_at dksX8_law_1 7 rfl rfl)
theorem dX8_law_34 : decode cX8_law 34 = .ok (.iconst 0, 1) := dk_3 (dk_at dksX8_law_1 10 rfl rfl)
theorem dX8_law_35 : decode cX8_law 35 = .ok (.ireturn, 1) := dk_172 (dk_at dksX8_law_1 11 rfl rfl)
theorem dX8_law_36 : decode cX8_law 36 = .ok (.aload_n 0, 1) := dk_42 (dk_at dksX8_law_1 12 rfl rfl)
theorem dX8_law_37 : decode cX8_law 37 = .ok (.getfield 7, 3) := dk_180 0 7 (dk_at dksX8_law_1 13 rfl rfl)
theorem dX8_law_40 : decode cX8_law 40 = .ok (.iconst 1, 1) := dk_4 (dk_at dksX8_law_1 16 rfl rfl)
theorem dX8_law_41 : decode cX8_law 41 = .ok (.iload_n 1, 1) := dk_27 (dk_at dksX8_law_1 17 rfl rfl)
theorem dX8_law_42 : decode cX8_law 42 = .ok (.iastore, 1) := dk_79 (dk_at dksX8_law_1 18 rfl rfl)
theorem dX8_law_43 : decode cX8_law 43 = .ok (.aload_n 0, 1) := dk_42 (dk_at dksX8_law_1 19 rfl rfl)
theorem dX8_law_44 : decode cX8_law 44 = .ok (.getfield 7, 3) := dk_180 0 7 (dk_at dksX8_law_1 20 rfl rfl)
theorem dX8_law_47 : decode cX8_law 47 = .ok (.iconst 2, 1) := dk_5 (dk_at dksX8_law_1 23 rfl rfl)
theorem dX8_law_48 : decode cX8_law 48 = .ok (.aload_n 0, 1) := dk_42 (dk_at dksX8_law_2 0 rfl rfl)
theorem dX8_law_49 : decode cX8_law 49 = .ok (.getfield 70, 3) := dk_180 0 70 (dk_at dksX8_law_2 1 rfl rfl)
theorem dX8_law_52 : decode cX8_law 52 = .ok (.iastore, 1) := dk_79 (dk_at dksX8_law_2 4 rfl rfl)
theorem dX8_law_53 : decode cX8_law 53 = .ok (.iconst 0, 1) := dk_3 (dk_at dksX8_law_2 5 rfl rfl)
theorem dX8_law_54 : decode cX8_law 54 = .ok (.istore_n 2, 1) := dk_61 (dk_at dksX8_law_2 6 rfl rfl)
theorem dX8_law_55 : decode cX8_law 55 = .ok (.iload_n 2, 1) := dk_28 (dk_at dksX8_law_2 7 rfl rfl)
theorem dX8_law_56 : decode cX8_law 56 = .ok (.aload_n 0, 1) := dk_42 (dk_at dksX8_law_2 8 rfl rfl)
theorem dX8_law_57 : decode cX8_law 57 = .ok (.getfield 70, 3) := dk_180 0 70 (dk_at dksX8_law_2 9 rfl rfl)
theorem dX8_law_60 : decode cX8_law 60 = .ok (.if_icmp .ge 25, 3) := dk_162 0 25 (dk_at dksX8_law_2 12 rfl rfl)
theorem dX8_law_63 : decode cX8_law 63 = .ok (.aload_n 0, 1) := dk_42 (dk_at dksX8_law_2 15 rfl rfl)
theorem dX8_law_64 : decode cX8_law 64 = .ok (.getfield 7, 3) := dk_180 0 7 (dk_at dksX8_law_2 16 rfl rfl)
theorem dX8_law_67 : decode cX8_law 67 = .ok (.sipush 584, 3) := dk_17 2 72 (dk_at dksX8_law_2 19 rfl rfl)
theorem dX8_law_70 : decode cX8_law 70 = .ok (.iload_n 2, 1) := dk_28 (dk_at dksX8_law_2 22 rfl rfl)
theorem dX8_law_71 : decode cX8_law 71 = .ok (.iadd, 1) := dk_96 (dk_at dksX8_law_2 23 rfl rfl)
theorem dX8_law_72 : decode cX8_law 72 = .ok (.aload_n 0, 1) := dk_42 (dk_at dksX8_law_3 0 rfl rfl)
theorem dX8_law_73 : decode cX8_law 73 = .ok (.getfield 22, 3) := dk_180 0 22 (dk_at dksX8_law_3 1 rfl rfl)
theorem dX8_law_76 : decode cX8_law 76 = .ok (.iload_n 2, 1) := dk_28 (dk_at dksX8_law_3 4 rfl rfl)
theorem dX8_law_77 : decode cX8_law 77 = .ok (.iaload, 1) := dk_46 (dk_at dksX8_law_3 5 rfl rfl)
theorem dX8_law_78 : decode cX8_law 78 = .ok (.iastore, 1) := dk_79 (dk_at dksX8_law_3 6 rfl rfl)
theorem dX8_law_79 : decode cX8_law 79 = .ok (.iinc 2 1, 3) := dk_132 2 1 (dk_at dksX8_law_3 7 rfl rfl)
theorem dX8_law_82 : decode cX8_law 82 = .ok (.goto (-27), 3) := dk_167 255 229 (dk_at dksX8_law_3 10 rfl rfl)
theorem dX8_law_85 : decode cX8_law 85 = .ok (.aload_n 0, 1) := dk_42 (dk_at dksX8_law_3 13 rfl rfl)
theorem dX8_law_86 : decode cX8_law 86 = .ok (.iconst 0, 1) := dk_3 (dk_at dksX8_law_3 14 rfl rfl)
theorem dX8_law_87 : decode cX8_law 87 = .ok (.putfield 182, 3) := dk_181 0 182 (dk_at dksX8_law_3 15 rfl rfl)
theorem dX8_law_90 : decode cX8_law 90 = .ok (.iload_n 1, 1) := dk_27 (dk_at dksX8_law_3 18 rfl rfl)
theorem dX8_law_91 : decode cX8_law 91 = .ok (.ireturn, 1) := dk_172 (dk_at dksX8_law_3 19 rfl rfl)
abbrev cX8_fault : ByteArray := prog_21_method_48_code
def yX8_fault : MethodName := ⟨RX8, "fault", "()I"⟩
def dkwX8_fault_0 : List UInt8 := [42, 3, 181, 0, 50, 42, 180, 0, 25, 172]
abbrev dktX8_fault_0 : List UInt8 := dkwX8_fault_0 ++ []
theorem dksX8_fault_0 : cX8_fault.data.toList.drop 0 = dktX8_fault_0 := by decide +kernel
theorem dX8_fault_0 : decode cX8_fault 0 = .ok (.aload_n 0, 1) := dk_42 (dk_at dksX8_fault_0 0 rfl rfl)
theorem dX8_fault_1 : decode cX8_fault 1 = .ok (.iconst 0, 1) := dk_3 (dk_at dksX8_fault_0 1 rfl rfl)
theorem dX8_fault_2 : decode cX8_fault 2 = .ok (.putfield 50, 3) := dk_181 0 50 (dk_at dksX8_fault_0 2 rfl rfl)
theorem dX8_fault_5 : decode cX8_fault 5 = .ok (.aload_n 0, 1) := dk_42 (dk_at dksX8_fault_0 5 rfl rfl)
theorem dX8_fault_6 : decode cX8_fault 6 = .ok (.getfield 25, 3) := dk_180 0 25 (dk_at dksX8_fault_0 6 rfl rfl)
theorem dX8_fault_9 : decode cX8_fault 9 = .ok (.ireturn, 1) := dk_172 (dk_at dksX8_fault_0 9 rfl rfl)
abbrev cX8_person : ByteArray := prog_21_method_51_code
def yX8_person : MethodName := ⟨RX8, "person", "(II)I"⟩
def dkwX8_person_2 : List UInt8 := [4, 96, 182, 0, 57, 167, 0, 8, 42, 27, 182, 0, 253, 172]
abbrev dktX8_person_2 : List UInt8 := dkwX8_person_2 ++ []
def dkwX8_person_1 : List UInt8 := [167, 0, 4, 3, 181, 0, 50, 42, 180, 0, 50, 158, 0, 5, 3, 172, 28, 8, 162, 0, 14, 42, 27, 28]
abbrev dktX8_person_1 : List UInt8 := dkwX8_person_1 ++ dktX8_person_2
def dkwX8_person_0 : List UInt8 := [42, 42, 27, 182, 0, 250, 154, 0, 7, 4, 167, 0, 17, 28, 3, 8, 184, 0, 53, 154, 0, 7, 5]
abbrev dktX8_person_0 : List UInt8 := dkwX8_person_0 ++ dktX8_person_1
theorem dksX8_person_0 : cX8_person.data.toList.drop 0 = dktX8_person_0 := by decide +kernel
theorem dksX8_person_1 : cX8_person.data.toList.drop 23 = dktX8_person_1 := dk_seg dksX8_person_0 23 rfl rfl
theorem dksX8_person_2 : cX8_person.data.toList.drop 47 = dktX8_person_2 := dk_seg dksX8_person_1 24 rfl rfl
theorem dX8_person_0 : decode cX8_person 0 = .ok (.aload_n 0, 1) := dk_42 (dk_at dksX8_person_0 0 rfl rfl)
theorem dX8_person_1 : decode cX8_person 1 = .ok (.aload_n 0, 1) := dk_42 (dk_at dksX8_person_0 1 rfl rfl)
theorem dX8_person_2 : decode cX8_person 2 = .ok (.iload_n 1, 1) := dk_27 (dk_at dksX8_person_0 2 rfl rfl)
theorem dX8_person_3 : decode cX8_person 3 = .ok (.invokevirtual 250, 3) := dk_182 0 250 (dk_at dksX8_person_0 3 rfl rfl)
theorem dX8_person_6 : decode cX8_person 6 = .ok (.ifCond .ne 7, 3) := dk_154 0 7 (dk_at dksX8_person_0 6 rfl rfl)
theorem dX8_person_9 : decode cX8_person 9 = .ok (.iconst 1, 1) := dk_4 (dk_at dksX8_person_0 9 rfl rfl)
theorem dX8_person_10 : decode cX8_person 10 = .ok (.goto 17, 3) := dk_167 0 17 (dk_at dksX8_person_0 10 rfl rfl)
theorem dX8_person_13 : decode cX8_person 13 = .ok (.iload_n 2, 1) := dk_28 (dk_at dksX8_person_0 13 rfl rfl)
theorem dX8_person_14 : decode cX8_person 14 = .ok (.iconst 0, 1) := dk_3 (dk_at dksX8_person_0 14 rfl rfl)
theorem dX8_person_15 : decode cX8_person 15 = .ok (.iconst 5, 1) := dk_8 (dk_at dksX8_person_0 15 rfl rfl)
theorem dX8_person_16 : decode cX8_person 16 = .ok (.invokestatic 53, 3) := dk_184 0 53 (dk_at dksX8_person_0 16 rfl rfl)
theorem dX8_person_19 : decode cX8_person 19 = .ok (.ifCond .ne 7, 3) := dk_154 0 7 (dk_at dksX8_person_0 19 rfl rfl)
theorem dX8_person_22 : decode cX8_person 22 = .ok (.iconst 2, 1) := dk_5 (dk_at dksX8_person_0 22 rfl rfl)
theorem dX8_person_23 : decode cX8_person 23 = .ok (.goto 4, 3) := dk_167 0 4 (dk_at dksX8_person_1 0 rfl rfl)
theorem dX8_person_26 : decode cX8_person 26 = .ok (.iconst 0, 1) := dk_3 (dk_at dksX8_person_1 3 rfl rfl)
theorem dX8_person_27 : decode cX8_person 27 = .ok (.putfield 50, 3) := dk_181 0 50 (dk_at dksX8_person_1 4 rfl rfl)
theorem dX8_person_30 : decode cX8_person 30 = .ok (.aload_n 0, 1) := dk_42 (dk_at dksX8_person_1 7 rfl rfl)
theorem dX8_person_31 : decode cX8_person 31 = .ok (.getfield 50, 3) := dk_180 0 50 (dk_at dksX8_person_1 8 rfl rfl)
theorem dX8_person_34 : decode cX8_person 34 = .ok (.ifCond .le 5, 3) := dk_158 0 5 (dk_at dksX8_person_1 11 rfl rfl)
theorem dX8_person_37 : decode cX8_person 37 = .ok (.iconst 0, 1) := dk_3 (dk_at dksX8_person_1 14 rfl rfl)
theorem dX8_person_38 : decode cX8_person 38 = .ok (.ireturn, 1) := dk_172 (dk_at dksX8_person_1 15 rfl rfl)
theorem dX8_person_39 : decode cX8_person 39 = .ok (.iload_n 2, 1) := dk_28 (dk_at dksX8_person_1 16 rfl rfl)
theorem dX8_person_40 : decode cX8_person 40 = .ok (.iconst 5, 1) := dk_8 (dk_at dksX8_person_1 17 rfl rfl)
theorem dX8_person_41 : decode cX8_person 41 = .ok (.if_icmp .ge 14, 3) := dk_162 0 14 (dk_at dksX8_person_1 18 rfl rfl)
theorem dX8_person_44 : decode cX8_person 44 = .ok (.aload_n 0, 1) := dk_42 (dk_at dksX8_person_1 21 rfl rfl)
theorem dX8_person_45 : decode cX8_person 45 = .ok (.iload_n 1, 1) := dk_27 (dk_at dksX8_person_1 22 rfl rfl)
theorem dX8_person_46 : decode cX8_person 46 = .ok (.iload_n 2, 1) := dk_28 (dk_at dksX8_person_1 23 rfl rfl)
theorem dX8_person_47 : decode cX8_person 47 = .ok (.iconst 1, 1) := dk_4 (dk_at dksX8_person_2 0 rfl rfl)
theorem dX8_person_48 : decode cX8_person 48 = .ok (.iadd, 1) := dk_96 (dk_at dksX8_person_2 1 rfl rfl)
theorem dX8_person_49 : decode cX8_person 49 = .ok (.invokevirtual 57, 3) := dk_182 0 57 (dk_at dksX8_person_2 2 rfl rfl)
theorem dX8_person_52 : decode cX8_person 52 = .ok (.goto 8, 3) := dk_167 0 8 (dk_at dksX8_person_2 5 rfl rfl)
theorem dX8_person_55 : decode cX8_person 55 = .ok (.aload_n 0, 1) := dk_42 (dk_at dksX8_person_2 8 rfl rfl)
theorem dX8_person_56 : decode cX8_person 56 = .ok (.iload_n 1, 1) := dk_27 (dk_at dksX8_person_2 9 rfl rfl)
theorem dX8_person_57 : decode cX8_person 57 = .ok (.invokevirtual 253, 3) := dk_182 0 253 (dk_at dksX8_person_2 10 rfl rfl)
theorem dX8_person_60 : decode cX8_person 60 = .ok (.ireturn, 1) := dk_172 (dk_at dksX8_person_2 13 rfl rfl)
abbrev cX8_isPerson : ByteArray := prog_21_method_10_code
def yX8_isPerson : MethodName := ⟨RX8, "isPerson", "(I)Z"⟩
def dkwX8_isPerson_0 : List UInt8 := [27, 3, 42, 180, 0, 7, 6, 46, 4, 100, 184, 0, 53, 172]
abbrev dktX8_isPerson_0 : List UInt8 := dkwX8_isPerson_0 ++ []
theorem dksX8_isPerson_0 : cX8_isPerson.data.toList.drop 0 = dktX8_isPerson_0 := by decide +kernel
theorem dX8_isPerson_0 : decode cX8_isPerson 0 = .ok (.iload_n 1, 1) := dk_27 (dk_at dksX8_isPerson_0 0 rfl rfl)
theorem dX8_isPerson_1 : decode cX8_isPerson 1 = .ok (.iconst 0, 1) := dk_3 (dk_at dksX8_isPerson_0 1 rfl rfl)
theorem dX8_isPerson_2 : decode cX8_isPerson 2 = .ok (.aload_n 0, 1) := dk_42 (dk_at dksX8_isPerson_0 2 rfl rfl)
theorem dX8_isPerson_3 : decode cX8_isPerson 3 = .ok (.getfield 7, 3) := dk_180 0 7 (dk_at dksX8_isPerson_0 3 rfl rfl)
theorem dX8_isPerson_6 : decode cX8_isPerson 6 = .ok (.iconst 3, 1) := dk_6 (dk_at dksX8_isPerson_0 6 rfl rfl)
theorem dX8_isPerson_7 : decode cX8_isPerson 7 = .ok (.iaload, 1) := dk_46 (dk_at dksX8_isPerson_0 7 rfl rfl)
theorem dX8_isPerson_8 : decode cX8_isPerson 8 = .ok (.iconst 1, 1) := dk_4 (dk_at dksX8_isPerson_0 8 rfl rfl)
theorem dX8_isPerson_9 : decode cX8_isPerson 9 = .ok (.isub, 1) := dk_100 (dk_at dksX8_isPerson_0 9 rfl rfl)
theorem dX8_isPerson_10 : decode cX8_isPerson 10 = .ok (.invokestatic 53, 3) := dk_184 0 53 (dk_at dksX8_isPerson_0 10 rfl rfl)
theorem dX8_isPerson_13 : decode cX8_isPerson 13 = .ok (.ireturn, 1) := dk_172 (dk_at dksX8_isPerson_0 13 rfl rfl)
abbrev cX8_ring : ByteArray := prog_21_method_50_code
def yX8_ring : MethodName := ⟨RX8, "ring", "(I)I"⟩
def dkwX8_ring_1 : List UInt8 := [29, 182, 0, 247, 62, 167, 255, 231, 28, 172]
abbrev dktX8_ring_1 : List UInt8 := dkwX8_ring_1 ++ []
def dkwX8_ring_0 : List UInt8 := [3, 61, 27, 62, 29, 2, 159, 0, 26, 28, 29, 184, 0, 107, 154, 0, 18, 28, 4, 29, 120, 128, 61, 42]
abbrev dktX8_ring_0 : List UInt8 := dkwX8_ring_0 ++ dktX8_ring_1
theorem dksX8_ring_0 : cX8_ring.data.toList.drop 0 = dktX8_ring_0 := by decide +kernel
theorem dksX8_ring_1 : cX8_ring.data.toList.drop 24 = dktX8_ring_1 := dk_seg dksX8_ring_0 24 rfl rfl
theorem dX8_ring_0 : decode cX8_ring 0 = .ok (.iconst 0, 1) := dk_3 (dk_at dksX8_ring_0 0 rfl rfl)
theorem dX8_ring_1 : decode cX8_ring 1 = .ok (.istore_n 2, 1) := dk_61 (dk_at dksX8_ring_0 1 rfl rfl)
theorem dX8_ring_2 : decode cX8_ring 2 = .ok (.iload_n 1, 1) := dk_27 (dk_at dksX8_ring_0 2 rfl rfl)
theorem dX8_ring_3 : decode cX8_ring 3 = .ok (.istore_n 3, 1) := dk_62 (dk_at dksX8_ring_0 3 rfl rfl)
theorem dX8_ring_4 : decode cX8_ring 4 = .ok (.iload_n 3, 1) := dk_29 (dk_at dksX8_ring_0 4 rfl rfl)
theorem dX8_ring_5 : decode cX8_ring 5 = .ok (.iconst (-1), 1) := dk_2 (dk_at dksX8_ring_0 5 rfl rfl)
theorem dX8_ring_6 : decode cX8_ring 6 = .ok (.if_icmp .eq 26, 3) := dk_159 0 26 (dk_at dksX8_ring_0 6 rfl rfl)
theorem dX8_ring_9 : decode cX8_ring 9 = .ok (.iload_n 2, 1) := dk_28 (dk_at dksX8_ring_0 9 rfl rfl)
theorem dX8_ring_10 : decode cX8_ring 10 = .ok (.iload_n 3, 1) := dk_29 (dk_at dksX8_ring_0 10 rfl rfl)
theorem dX8_ring_11 : decode cX8_ring 11 = .ok (.invokestatic 107, 3) := dk_184 0 107 (dk_at dksX8_ring_0 11 rfl rfl)
theorem dX8_ring_14 : decode cX8_ring 14 = .ok (.ifCond .ne 18, 3) := dk_154 0 18 (dk_at dksX8_ring_0 14 rfl rfl)
theorem dX8_ring_17 : decode cX8_ring 17 = .ok (.iload_n 2, 1) := dk_28 (dk_at dksX8_ring_0 17 rfl rfl)
theorem dX8_ring_18 : decode cX8_ring 18 = .ok (.iconst 1, 1) := dk_4 (dk_at dksX8_ring_0 18 rfl rfl)
theorem dX8_ring_19 : decode cX8_ring 19 = .ok (.iload_n 3, 1) := dk_29 (dk_at dksX8_ring_0 19 rfl rfl)
theorem dX8_ring_20 : decode cX8_ring 20 = .ok (.ishl, 1) := dk_120 (dk_at dksX8_ring_0 20 rfl rfl)
theorem dX8_ring_21 : decode cX8_ring 21 = .ok (.ior, 1) := dk_128 (dk_at dksX8_ring_0 21 rfl rfl)
theorem dX8_ring_22 : decode cX8_ring 22 = .ok (.istore_n 2, 1) := dk_61 (dk_at dksX8_ring_0 22 rfl rfl)
theorem dX8_ring_23 : decode cX8_ring 23 = .ok (.aload_n 0, 1) := dk_42 (dk_at dksX8_ring_0 23 rfl rfl)
theorem dX8_ring_24 : decode cX8_ring 24 = .ok (.iload_n 3, 1) := dk_29 (dk_at dksX8_ring_1 0 rfl rfl)
theorem dX8_ring_25 : decode cX8_ring 25 = .ok (.invokevirtual 247, 3) := dk_182 0 247 (dk_at dksX8_ring_1 1 rfl rfl)
theorem dX8_ring_28 : decode cX8_ring 28 = .ok (.istore_n 3, 1) := dk_62 (dk_at dksX8_ring_1 4 rfl rfl)
theorem dX8_ring_29 : decode cX8_ring 29 = .ok (.goto (-25), 3) := dk_167 255 231 (dk_at dksX8_ring_1 5 rfl rfl)
theorem dX8_ring_32 : decode cX8_ring 32 = .ok (.iload_n 2, 1) := dk_28 (dk_at dksX8_ring_1 8 rfl rfl)
theorem dX8_ring_33 : decode cX8_ring 33 = .ok (.ireturn, 1) := dk_172 (dk_at dksX8_ring_1 9 rfl rfl)
abbrev cX8_wearer : ByteArray := prog_21_method_13_code
def yX8_wearer : MethodName := ⟨RX8, "wearer", "(I)I"⟩
def dkwX8_wearer_1 : List UInt8 := [132, 2, 1, 167, 255, 231, 2, 172]
abbrev dktX8_wearer_1 : List UInt8 := dkwX8_wearer_1 ++ []
def dkwX8_wearer_0 : List UInt8 := [3, 61, 28, 42, 180, 0, 7, 6, 46, 162, 0, 21, 42, 28, 5, 182, 0, 57, 27, 160, 0, 5, 28, 172]
abbrev dktX8_wearer_0 : List UInt8 := dkwX8_wearer_0 ++ dktX8_wearer_1
theorem dksX8_wearer_0 : cX8_wearer.data.toList.drop 0 = dktX8_wearer_0 := by decide +kernel
theorem dksX8_wearer_1 : cX8_wearer.data.toList.drop 24 = dktX8_wearer_1 := dk_seg dksX8_wearer_0 24 rfl rfl
theorem dX8_wearer_0 : decode cX8_wearer 0 = .ok (.iconst 0, 1) := dk_3 (dk_at dksX8_wearer_0 0 rfl rfl)
theorem dX8_wearer_1 : decode cX8_wearer 1 = .ok (.istore_n 2, 1) := dk_61 (dk_at dksX8_wearer_0 1 rfl rfl)
theorem dX8_wearer_2 : decode cX8_wearer 2 = .ok (.iload_n 2, 1) := dk_28 (dk_at dksX8_wearer_0 2 rfl rfl)
theorem dX8_wearer_3 : decode cX8_wearer 3 = .ok (.aload_n 0, 1) := dk_42 (dk_at dksX8_wearer_0 3 rfl rfl)
theorem dX8_wearer_4 : decode cX8_wearer 4 = .ok (.getfield 7, 3) := dk_180 0 7 (dk_at dksX8_wearer_0 4 rfl rfl)
theorem dX8_wearer_7 : decode cX8_wearer 7 = .ok (.iconst 3, 1) := dk_6 (dk_at dksX8_wearer_0 7 rfl rfl)
theorem dX8_wearer_8 : decode cX8_wearer 8 = .ok (.iaload, 1) := dk_46 (dk_at dksX8_wearer_0 8 rfl rfl)
theorem dX8_wearer_9 : decode cX8_wearer 9 = .ok (.if_icmp .ge 21, 3) := dk_162 0 21 (dk_at dksX8_wearer_0 9 rfl rfl)
theorem dX8_wearer_12 : decode cX8_wearer 12 = .ok (.aload_n 0, 1) := dk_42 (dk_at dksX8_wearer_0 12 rfl rfl)
theorem dX8_wearer_13 : decode cX8_wearer 13 = .ok (.iload_n 2, 1) := dk_28 (dk_at dksX8_wearer_0 13 rfl rfl)
theorem dX8_wearer_14 : decode cX8_wearer 14 = .ok (.iconst 2, 1) := dk_5 (dk_at dksX8_wearer_0 14 rfl rfl)
theorem dX8_wearer_15 : decode cX8_wearer 15 = .ok (.invokevirtual 57, 3) := dk_182 0 57 (dk_at dksX8_wearer_0 15 rfl rfl)
theorem dX8_wearer_18 : decode cX8_wearer 18 = .ok (.iload_n 1, 1) := dk_27 (dk_at dksX8_wearer_0 18 rfl rfl)
theorem dX8_wearer_19 : decode cX8_wearer 19 = .ok (.if_icmp .ne 5, 3) := dk_160 0 5 (dk_at dksX8_wearer_0 19 rfl rfl)
theorem dX8_wearer_22 : decode cX8_wearer 22 = .ok (.iload_n 2, 1) := dk_28 (dk_at dksX8_wearer_0 22 rfl rfl)
theorem dX8_wearer_23 : decode cX8_wearer 23 = .ok (.ireturn, 1) := dk_172 (dk_at dksX8_wearer_0 23 rfl rfl)
theorem dX8_wearer_24 : decode cX8_wearer 24 = .ok (.iinc 2 1, 3) := dk_132 2 1 (dk_at dksX8_wearer_1 0 rfl rfl)
theorem dX8_wearer_27 : decode cX8_wearer 27 = .ok (.goto (-25), 3) := dk_167 255 231 (dk_at dksX8_wearer_1 3 rfl rfl)
theorem dX8_wearer_30 : decode cX8_wearer 30 = .ok (.iconst (-1), 1) := dk_2 (dk_at dksX8_wearer_1 6 rfl rfl)
theorem dX8_wearer_31 : decode cX8_wearer 31 = .ok (.ireturn, 1) := dk_172 (dk_at dksX8_wearer_1 7 rfl rfl)
abbrev cX8_face : ByteArray := prog_21_method_53_code
def yX8_face : MethodName := ⟨RX8, "face", "(II)I"⟩
def dkwX8_face_3 : List UInt8 := [42, 27, 182, 1, 0, 167, 0, 8, 42, 27, 182, 1, 3, 172]
abbrev dktX8_face_3 : List UInt8 := dkwX8_face_3 ++ []
def dkwX8_face_2 : List UInt8 := [182, 0, 57, 167, 0, 34, 28, 4, 160, 0, 11, 42, 27, 182, 0, 247, 167, 0, 21, 28, 5, 160, 0, 11]
abbrev dktX8_face_2 : List UInt8 := dkwX8_face_2 ++ dktX8_face_3
def dkwX8_face_1 : List UInt8 := [167, 0, 4, 3, 181, 0, 50, 42, 180, 0, 50, 158, 0, 5, 3, 172, 28, 154, 0, 12, 42, 27, 3]
abbrev dktX8_face_1 : List UInt8 := dkwX8_face_1 ++ dktX8_face_2
def dkwX8_face_0 : List UInt8 := [42, 42, 27, 182, 0, 250, 154, 0, 7, 4, 167, 0, 17, 28, 3, 6, 184, 0, 53, 154, 0, 7, 5]
abbrev dktX8_face_0 : List UInt8 := dkwX8_face_0 ++ dktX8_face_1
theorem dksX8_face_0 : cX8_face.data.toList.drop 0 = dktX8_face_0 := by decide +kernel
theorem dksX8_face_1 : cX8_face.data.toList.drop 23 = dktX8_face_1 := dk_seg dksX8_face_0 23 rfl rfl
theorem dksX8_face_2 : cX8_face.data.toList.drop 46 = dktX8_face_2 := dk_seg dksX8_face_1 23 rfl rfl
theorem dksX8_face_3 : cX8_face.data.toList.drop 70 = dktX8_face_3 := dk_seg dksX8_face_2 24 rfl rfl
theorem dX8_face_0 : decode cX8_face 0 = .ok (.aload_n 0, 1) := dk_42 (dk_at dksX8_face_0 0 rfl rfl)
theorem dX8_face_1 : decode cX8_face 1 = .ok (.aload_n 0, 1) := dk_42 (dk_at dksX8_face_0 1 rfl rfl)
theorem dX8_face_2 : decode cX8_face 2 = .ok (.iload_n 1, 1) := dk_27 (dk_at dksX8_face_0 2 rfl rfl)
theorem dX8_face_3 : decode cX8_face 3 = .ok (.invokevirtual 250, 3) := dk_182 0 250 (dk_at dksX8_face_0 3 rfl rfl)
theorem dX8_face_6 : decode cX8_face 6 = .ok (.ifCond .ne 7, 3) := dk_154 0 7 (dk_at dksX8_face_0 6 rfl rfl)
theorem dX8_face_9 : decode cX8_face 9 = .ok (.iconst 1, 1) := dk_4 (dk_at dksX8_face_0 9 rfl rfl)
theorem dX8_face_10 : decode cX8_face 10 = .ok (.goto 17, 3) := dk_167 0 17 (dk_at dksX8_face_0 10 rfl rfl)
theorem dX8_face_13 : decode cX8_face 13 = .ok (.iload_n 2, 1) := dk_28 (dk_at dksX8_face_0 13 rfl rfl)
theorem dX8_face_14 : decode cX8_face 14 = .ok (.iconst 0, 1) := dk_3 (dk_at dksX8_face_0 14 rfl rfl)
theorem dX8_face_15 : decode cX8_face 15 = .ok (.iconst 3, 1) := dk_6 (dk_at dksX8_face_0 15 rfl rfl)
theorem dX8_face_16 : decode cX8_face 16 = .ok (.invokestatic 53, 3) := dk_184 0 53 (dk_at dksX8_face_0 16 rfl rfl)
theorem dX8_face_19 : decode cX8_face 19 = .ok (.ifCond .ne 7, 3) := dk_154 0 7 (dk_at dksX8_face_0 19 rfl rfl)
theorem dX8_face_22 : decode cX8_face 22 = .ok (.iconst 2, 1) := dk_5 (dk_at dksX8_face_0 22 rfl rfl)
theorem dX8_face_23 : decode cX8_face 23 = .ok (.goto 4, 3) := dk_167 0 4 (dk_at dksX8_face_1 0 rfl rfl)
theorem dX8_face_26 : decode cX8_face 26 = .ok (.iconst 0, 1) := dk_3 (dk_at dksX8_face_1 3 rfl rfl)
theorem dX8_face_27 : decode cX8_face 27 = .ok (.putfield 50, 3) := dk_181 0 50 (dk_at dksX8_face_1 4 rfl rfl)
theorem dX8_face_30 : decode cX8_face 30 = .ok (.aload_n 0, 1) := dk_42 (dk_at dksX8_face_1 7 rfl rfl)
theorem dX8_face_31 : decode cX8_face 31 = .ok (.getfield 50, 3) := dk_180 0 50 (dk_at dksX8_face_1 8 rfl rfl)
theorem dX8_face_34 : decode cX8_face 34 = .ok (.ifCond .le 5, 3) := dk_158 0 5 (dk_at dksX8_face_1 11 rfl rfl)
theorem dX8_face_37 : decode cX8_face 37 = .ok (.iconst 0, 1) := dk_3 (dk_at dksX8_face_1 14 rfl rfl)
theorem dX8_face_38 : decode cX8_face 38 = .ok (.ireturn, 1) := dk_172 (dk_at dksX8_face_1 15 rfl rfl)
theorem dX8_face_39 : decode cX8_face 39 = .ok (.iload_n 2, 1) := dk_28 (dk_at dksX8_face_1 16 rfl rfl)
theorem dX8_face_40 : decode cX8_face 40 = .ok (.ifCond .ne 12, 3) := dk_154 0 12 (dk_at dksX8_face_1 17 rfl rfl)
theorem dX8_face_43 : decode cX8_face 43 = .ok (.aload_n 0, 1) := dk_42 (dk_at dksX8_face_1 20 rfl rfl)
theorem dX8_face_44 : decode cX8_face 44 = .ok (.iload_n 1, 1) := dk_27 (dk_at dksX8_face_1 21 rfl rfl)
theorem dX8_face_45 : decode cX8_face 45 = .ok (.iconst 0, 1) := dk_3 (dk_at dksX8_face_1 22 rfl rfl)
theorem dX8_face_46 : decode cX8_face 46 = .ok (.invokevirtual 57, 3) := dk_182 0 57 (dk_at dksX8_face_2 0 rfl rfl)
theorem dX8_face_49 : decode cX8_face 49 = .ok (.goto 34, 3) := dk_167 0 34 (dk_at dksX8_face_2 3 rfl rfl)
theorem dX8_face_52 : decode cX8_face 52 = .ok (.iload_n 2, 1) := dk_28 (dk_at dksX8_face_2 6 rfl rfl)
theorem dX8_face_53 : decode cX8_face 53 = .ok (.iconst 1, 1) := dk_4 (dk_at dksX8_face_2 7 rfl rfl)
theorem dX8_face_54 : decode cX8_face 54 = .ok (.if_icmp .ne 11, 3) := dk_160 0 11 (dk_at dksX8_face_2 8 rfl rfl)
theorem dX8_face_57 : decode cX8_face 57 = .ok (.aload_n 0, 1) := dk_42 (dk_at dksX8_face_2 11 rfl rfl)
theorem dX8_face_58 : decode cX8_face 58 = .ok (.iload_n 1, 1) := dk_27 (dk_at dksX8_face_2 12 rfl rfl)
theorem dX8_face_59 : decode cX8_face 59 = .ok (.invokevirtual 247, 3) := dk_182 0 247 (dk_at dksX8_face_2 13 rfl rfl)
theorem dX8_face_62 : decode cX8_face 62 = .ok (.goto 21, 3) := dk_167 0 21 (dk_at dksX8_face_2 16 rfl rfl)
theorem dX8_face_65 : decode cX8_face 65 = .ok (.iload_n 2, 1) := dk_28 (dk_at dksX8_face_2 19 rfl rfl)
theorem dX8_face_66 : decode cX8_face 66 = .ok (.iconst 2, 1) := dk_5 (dk_at dksX8_face_2 20 rfl rfl)
theorem dX8_face_67 : decode cX8_face 67 = .ok (.if_icmp .ne 11, 3) := dk_160 0 11 (dk_at dksX8_face_2 21 rfl rfl)
theorem dX8_face_70 : decode cX8_face 70 = .ok (.aload_n 0, 1) := dk_42 (dk_at dksX8_face_3 0 rfl rfl)
theorem dX8_face_71 : decode cX8_face 71 = .ok (.iload_n 1, 1) := dk_27 (dk_at dksX8_face_3 1 rfl rfl)
theorem dX8_face_72 : decode cX8_face 72 = .ok (.invokevirtual 256, 3) := dk_182 1 0 (dk_at dksX8_face_3 2 rfl rfl)
theorem dX8_face_75 : decode cX8_face 75 = .ok (.goto 8, 3) := dk_167 0 8 (dk_at dksX8_face_3 5 rfl rfl)
theorem dX8_face_78 : decode cX8_face 78 = .ok (.aload_n 0, 1) := dk_42 (dk_at dksX8_face_3 8 rfl rfl)
theorem dX8_face_79 : decode cX8_face 79 = .ok (.iload_n 1, 1) := dk_27 (dk_at dksX8_face_3 9 rfl rfl)
theorem dX8_face_80 : decode cX8_face 80 = .ok (.invokevirtual 259, 3) := dk_182 1 3 (dk_at dksX8_face_3 10 rfl rfl)
theorem dX8_face_83 : decode cX8_face 83 = .ok (.ireturn, 1) := dk_172 (dk_at dksX8_face_3 13 rfl rfl)
abbrev cX8_hookOf : ByteArray := prog_21_method_14_code
def yX8_hookOf : MethodName := ⟨RX8, "hookOf", "(I)I"⟩
def dkwX8_hookOf_1 : List UInt8 := [160, 0, 5, 28, 172, 132, 2, 1, 167, 255, 227, 2, 172]
abbrev dktX8_hookOf_1 : List UInt8 := dkwX8_hookOf_1 ++ []
def dkwX8_hookOf_0 : List UInt8 := [3, 61, 28, 42, 180, 0, 7, 7, 46, 162, 0, 25, 42, 180, 0, 7, 17, 1, 16, 28, 96, 46, 27]
abbrev dktX8_hookOf_0 : List UInt8 := dkwX8_hookOf_0 ++ dktX8_hookOf_1
theorem dksX8_hookOf_0 : cX8_hookOf.data.toList.drop 0 = dktX8_hookOf_0 := by decide +kernel
theorem dksX8_hookOf_1 : cX8_hookOf.data.toList.drop 23 = dktX8_hookOf_1 := dk_seg dksX8_hookOf_0 23 rfl rfl
theorem dX8_hookOf_0 : decode cX8_hookOf 0 = .ok (.iconst 0, 1) := dk_3 (dk_at dksX8_hookOf_0 0 rfl rfl)
theorem dX8_hookOf_1 : decode cX8_hookOf 1 = .ok (.istore_n 2, 1) := dk_61 (dk_at dksX8_hookOf_0 1 rfl rfl)
theorem dX8_hookOf_2 : decode cX8_hookOf 2 = .ok (.iload_n 2, 1) := dk_28 (dk_at dksX8_hookOf_0 2 rfl rfl)
theorem dX8_hookOf_3 : decode cX8_hookOf 3 = .ok (.aload_n 0, 1) := dk_42 (dk_at dksX8_hookOf_0 3 rfl rfl)
theorem dX8_hookOf_4 : decode cX8_hookOf 4 = .ok (.getfield 7, 3) := dk_180 0 7 (dk_at dksX8_hookOf_0 4 rfl rfl)
theorem dX8_hookOf_7 : decode cX8_hookOf 7 = .ok (.iconst 4, 1) := dk_7 (dk_at dksX8_hookOf_0 7 rfl rfl)
theorem dX8_hookOf_8 : decode cX8_hookOf 8 = .ok (.iaload, 1) := dk_46 (dk_at dksX8_hookOf_0 8 rfl rfl)
theorem dX8_hookOf_9 : decode cX8_hookOf 9 = .ok (.if_icmp .ge 25, 3) := dk_162 0 25 (dk_at dksX8_hookOf_0 9 rfl rfl)
theorem dX8_hookOf_12 : decode cX8_hookOf 12 = .ok (.aload_n 0, 1) := dk_42 (dk_at dksX8_hookOf_0 12 rfl rfl)
theorem dX8_hookOf_13 : decode cX8_hookOf 13 = .ok (.getfield 7, 3) := dk_180 0 7 (dk_at dksX8_hookOf_0 13 rfl rfl)
theorem dX8_hookOf_16 : decode cX8_hookOf 16 = .ok (.sipush 272, 3) := dk_17 1 16 (dk_at dksX8_hookOf_0 16 rfl rfl)
theorem dX8_hookOf_19 : decode cX8_hookOf 19 = .ok (.iload_n 2, 1) := dk_28 (dk_at dksX8_hookOf_0 19 rfl rfl)
theorem dX8_hookOf_20 : decode cX8_hookOf 20 = .ok (.iadd, 1) := dk_96 (dk_at dksX8_hookOf_0 20 rfl rfl)
theorem dX8_hookOf_21 : decode cX8_hookOf 21 = .ok (.iaload, 1) := dk_46 (dk_at dksX8_hookOf_0 21 rfl rfl)
theorem dX8_hookOf_22 : decode cX8_hookOf 22 = .ok (.iload_n 1, 1) := dk_27 (dk_at dksX8_hookOf_0 22 rfl rfl)
theorem dX8_hookOf_23 : decode cX8_hookOf 23 = .ok (.if_icmp .ne 5, 3) := dk_160 0 5 (dk_at dksX8_hookOf_1 0 rfl rfl)
theorem dX8_hookOf_26 : decode cX8_hookOf 26 = .ok (.iload_n 2, 1) := dk_28 (dk_at dksX8_hookOf_1 3 rfl rfl)
theorem dX8_hookOf_27 : decode cX8_hookOf 27 = .ok (.ireturn, 1) := dk_172 (dk_at dksX8_hookOf_1 4 rfl rfl)
theorem dX8_hookOf_28 : decode cX8_hookOf 28 = .ok (.iinc 2 1, 3) := dk_132 2 1 (dk_at dksX8_hookOf_1 5 rfl rfl)
theorem dX8_hookOf_31 : decode cX8_hookOf 31 = .ok (.goto (-29), 3) := dk_167 255 227 (dk_at dksX8_hookOf_1 8 rfl rfl)
theorem dX8_hookOf_34 : decode cX8_hookOf 34 = .ok (.iconst (-1), 1) := dk_2 (dk_at dksX8_hookOf_1 11 rfl rfl)
theorem dX8_hookOf_35 : decode cX8_hookOf 35 = .ok (.ireturn, 1) := dk_172 (dk_at dksX8_hookOf_1 12 rfl rfl)
abbrev cX8_alike : ByteArray := prog_21_method_52_code
def yX8_alike : MethodName := ⟨RX8, "alike", "(I)I"⟩
def dkwX8_alike_2 : List UInt8 := [167, 255, 213, 28, 172]
abbrev dktX8_alike_2 : List UInt8 := dkwX8_alike_2 ++ []
def dkwX8_alike_1 : List UInt8 := [182, 0, 57, 42, 27, 3, 182, 0, 57, 160, 0, 9, 4, 29, 120, 167, 0, 4, 3, 128, 61, 132, 3, 1]
abbrev dktX8_alike_1 : List UInt8 := dkwX8_alike_1 ++ dktX8_alike_2
def dkwX8_alike_0 : List UInt8 := [3, 61, 3, 62, 29, 42, 180, 0, 7, 6, 46, 162, 0, 39, 28, 29, 27, 159, 0, 24, 42, 29, 3]
abbrev dktX8_alike_0 : List UInt8 := dkwX8_alike_0 ++ dktX8_alike_1
theorem dksX8_alike_0 : cX8_alike.data.toList.drop 0 = dktX8_alike_0 := by decide +kernel
theorem dksX8_alike_1 : cX8_alike.data.toList.drop 23 = dktX8_alike_1 := dk_seg dksX8_alike_0 23 rfl rfl
theorem dksX8_alike_2 : cX8_alike.data.toList.drop 47 = dktX8_alike_2 := dk_seg dksX8_alike_1 24 rfl rfl
theorem dX8_alike_0 : decode cX8_alike 0 = .ok (.iconst 0, 1) := dk_3 (dk_at dksX8_alike_0 0 rfl rfl)
theorem dX8_alike_1 : decode cX8_alike 1 = .ok (.istore_n 2, 1) := dk_61 (dk_at dksX8_alike_0 1 rfl rfl)
theorem dX8_alike_2 : decode cX8_alike 2 = .ok (.iconst 0, 1) := dk_3 (dk_at dksX8_alike_0 2 rfl rfl)
theorem dX8_alike_3 : decode cX8_alike 3 = .ok (.istore_n 3, 1) := dk_62 (dk_at dksX8_alike_0 3 rfl rfl)
theorem dX8_alike_4 : decode cX8_alike 4 = .ok (.iload_n 3, 1) := dk_29 (dk_at dksX8_alike_0 4 rfl rfl)
theorem dX8_alike_5 : decode cX8_alike 5 = .ok (.aload_n 0, 1) := dk_42 (dk_at dksX8_alike_0 5 rfl rfl)
theorem dX8_alike_6 : decode cX8_alike 6 = .ok (.getfield 7, 3) := dk_180 0 7 (dk_at dksX8_alike_0 6 rfl rfl)
theorem dX8_alike_9 : decode cX8_alike 9 = .ok (.iconst 3, 1) := dk_6 (dk_at dksX8_alike_0 9 rfl rfl)
theorem dX8_alike_10 : decode cX8_alike 10 = .ok (.iaload, 1) := dk_46 (dk_at dksX8_alike_0 10 rfl rfl)
theorem dX8_alike_11 : decode cX8_alike 11 = .ok (.if_icmp .ge 39, 3) := dk_162 0 39 (dk_at dksX8_alike_0 11 rfl rfl)
theorem dX8_alike_14 : decode cX8_alike 14 = .ok (.iload_n 2, 1) := dk_28 (dk_at dksX8_alike_0 14 rfl rfl)
theorem dX8_alike_15 : decode cX8_alike 15 = .ok (.iload_n 3, 1) := dk_29 (dk_at dksX8_alike_0 15 rfl rfl)
theorem dX8_alike_16 : decode cX8_alike 16 = .ok (.iload_n 1, 1) := dk_27 (dk_at dksX8_alike_0 16 rfl rfl)
theorem dX8_alike_17 : decode cX8_alike 17 = .ok (.if_icmp .eq 24, 3) := dk_159 0 24 (dk_at dksX8_alike_0 17 rfl rfl)
theorem dX8_alike_20 : decode cX8_alike 20 = .ok (.aload_n 0, 1) := dk_42 (dk_at dksX8_alike_0 20 rfl rfl)
theorem dX8_alike_21 : decode cX8_alike 21 = .ok (.iload_n 3, 1) := dk_29 (dk_at dksX8_alike_0 21 rfl rfl)
theorem dX8_alike_22 : decode cX8_alike 22 = .ok (.iconst 0, 1) := dk_3 (dk_at dksX8_alike_0 22 rfl rfl)
theorem dX8_alike_23 : decode cX8_alike 23 = .ok (.invokevirtual 57, 3) := dk_182 0 57 (dk_at dksX8_alike_1 0 rfl rfl)
theorem dX8_alike_26 : decode cX8_alike 26 = .ok (.aload_n 0, 1) := dk_42 (dk_at dksX8_alike_1 3 rfl rfl)
theorem dX8_alike_27 : decode cX8_alike 27 = .ok (.iload_n 1, 1) := dk_27 (dk_at dksX8_alike_1 4 rfl rfl)
theorem dX8_alike_28 : decode cX8_alike 28 = .ok (.iconst 0, 1) := dk_3 (dk_at dksX8_alike_1 5 rfl rfl)
theorem dX8_alike_29 : decode cX8_alike 29 = .ok (.invokevirtual 57, 3) := dk_182 0 57 (dk_at dksX8_alike_1 6 rfl rfl)
theorem dX8_alike_32 : decode cX8_alike 32 = .ok (.if_icmp .ne 9, 3) := dk_160 0 9 (dk_at dksX8_alike_1 9 rfl rfl)
theorem dX8_alike_35 : decode cX8_alike 35 = .ok (.iconst 1, 1) := dk_4 (dk_at dksX8_alike_1 12 rfl rfl)
theorem dX8_alike_36 : decode cX8_alike 36 = .ok (.iload_n 3, 1) := dk_29 (dk_at dksX8_alike_1 13 rfl rfl)
theorem dX8_alike_37 : decode cX8_alike 37 = .ok (.ishl, 1) := dk_120 (dk_at dksX8_alike_1 14 rfl rfl)
theorem dX8_alike_38 : decode cX8_alike 38 = .ok (.goto 4, 3) := dk_167 0 4 (dk_at dksX8_alike_1 15 rfl rfl)
theorem dX8_alike_41 : decode cX8_alike 41 = .ok (.iconst 0, 1) := dk_3 (dk_at dksX8_alike_1 18 rfl rfl)
theorem dX8_alike_42 : decode cX8_alike 42 = .ok (.ior, 1) := dk_128 (dk_at dksX8_alike_1 19 rfl rfl)
theorem dX8_alike_43 : decode cX8_alike 43 = .ok (.istore_n 2, 1) := dk_61 (dk_at dksX8_alike_1 20 rfl rfl)
theorem dX8_alike_44 : decode cX8_alike 44 = .ok (.iinc 3 1, 3) := dk_132 3 1 (dk_at dksX8_alike_1 21 rfl rfl)
theorem dX8_alike_47 : decode cX8_alike 47 = .ok (.goto (-43), 3) := dk_167 255 213 (dk_at dksX8_alike_2 0 rfl rfl)
theorem dX8_alike_50 : decode cX8_alike 50 = .ok (.iload_n 2, 1) := dk_28 (dk_at dksX8_alike_2 3 rfl rfl)
theorem dX8_alike_51 : decode cX8_alike 51 = .ok (.ireturn, 1) := dk_172 (dk_at dksX8_alike_2 4 rfl rfl)
abbrev cX8_hook : ByteArray := prog_21_method_54_code
def yX8_hook : MethodName := ⟨RX8, "hook", "(I)I"⟩
def dkwX8_hook_1 : List UInt8 := [3, 167, 0, 13, 42, 180, 0, 7, 17, 1, 16, 27, 96, 46, 172]
abbrev dktX8_hook_1 : List UInt8 := dkwX8_hook_1 ++ []
def dkwX8_hook_0 : List UInt8 := [42, 42, 27, 182, 1, 6, 154, 0, 7, 4, 167, 0, 4, 3, 181, 0, 50, 42, 180, 0, 50, 158, 0, 7]
abbrev dktX8_hook_0 : List UInt8 := dkwX8_hook_0 ++ dktX8_hook_1
theorem dksX8_hook_0 : cX8_hook.data.toList.drop 0 = dktX8_hook_0 := by decide +kernel
theorem dksX8_hook_1 : cX8_hook.data.toList.drop 24 = dktX8_hook_1 := dk_seg dksX8_hook_0 24 rfl rfl
theorem dX8_hook_0 : decode cX8_hook 0 = .ok (.aload_n 0, 1) := dk_42 (dk_at dksX8_hook_0 0 rfl rfl)
theorem dX8_hook_1 : decode cX8_hook 1 = .ok (.aload_n 0, 1) := dk_42 (dk_at dksX8_hook_0 1 rfl rfl)
theorem dX8_hook_2 : decode cX8_hook 2 = .ok (.iload_n 1, 1) := dk_27 (dk_at dksX8_hook_0 2 rfl rfl)
theorem dX8_hook_3 : decode cX8_hook 3 = .ok (.invokevirtual 262, 3) := dk_182 1 6 (dk_at dksX8_hook_0 3 rfl rfl)
theorem dX8_hook_6 : decode cX8_hook 6 = .ok (.ifCond .ne 7, 3) := dk_154 0 7 (dk_at dksX8_hook_0 6 rfl rfl)
theorem dX8_hook_9 : decode cX8_hook 9 = .ok (.iconst 1, 1) := dk_4 (dk_at dksX8_hook_0 9 rfl rfl)
theorem dX8_hook_10 : decode cX8_hook 10 = .ok (.goto 4, 3) := dk_167 0 4 (dk_at dksX8_hook_0 10 rfl rfl)
theorem dX8_hook_13 : decode cX8_hook 13 = .ok (.iconst 0, 1) := dk_3 (dk_at dksX8_hook_0 13 rfl rfl)
theorem dX8_hook_14 : decode cX8_hook 14 = .ok (.putfield 50, 3) := dk_181 0 50 (dk_at dksX8_hook_0 14 rfl rfl)
theorem dX8_hook_17 : decode cX8_hook 17 = .ok (.aload_n 0, 1) := dk_42 (dk_at dksX8_hook_0 17 rfl rfl)
theorem dX8_hook_18 : decode cX8_hook 18 = .ok (.getfield 50, 3) := dk_180 0 50 (dk_at dksX8_hook_0 18 rfl rfl)
theorem dX8_hook_21 : decode cX8_hook 21 = .ok (.ifCond .le 7, 3) := dk_158 0 7 (dk_at dksX8_hook_0 21 rfl rfl)
theorem dX8_hook_24 : decode cX8_hook 24 = .ok (.iconst 0, 1) := dk_3 (dk_at dksX8_hook_1 0 rfl rfl)
theorem dX8_hook_25 : decode cX8_hook 25 = .ok (.goto 13, 3) := dk_167 0 13 (dk_at dksX8_hook_1 1 rfl rfl)
theorem dX8_hook_28 : decode cX8_hook 28 = .ok (.aload_n 0, 1) := dk_42 (dk_at dksX8_hook_1 4 rfl rfl)
theorem dX8_hook_29 : decode cX8_hook 29 = .ok (.getfield 7, 3) := dk_180 0 7 (dk_at dksX8_hook_1 5 rfl rfl)
theorem dX8_hook_32 : decode cX8_hook 32 = .ok (.sipush 272, 3) := dk_17 1 16 (dk_at dksX8_hook_1 8 rfl rfl)
theorem dX8_hook_35 : decode cX8_hook 35 = .ok (.iload_n 1, 1) := dk_27 (dk_at dksX8_hook_1 11 rfl rfl)
theorem dX8_hook_36 : decode cX8_hook 36 = .ok (.iadd, 1) := dk_96 (dk_at dksX8_hook_1 12 rfl rfl)
theorem dX8_hook_37 : decode cX8_hook 37 = .ok (.iaload, 1) := dk_46 (dk_at dksX8_hook_1 13 rfl rfl)
theorem dX8_hook_38 : decode cX8_hook 38 = .ok (.ireturn, 1) := dk_172 (dk_at dksX8_hook_1 14 rfl rfl)
abbrev cX8_isHook : ByteArray := prog_21_method_11_code
def yX8_isHook : MethodName := ⟨RX8, "isHook", "(I)Z"⟩
def dkwX8_isHook_0 : List UInt8 := [27, 3, 42, 180, 0, 7, 7, 46, 4, 100, 184, 0, 53, 172]
abbrev dktX8_isHook_0 : List UInt8 := dkwX8_isHook_0 ++ []
theorem dksX8_isHook_0 : cX8_isHook.data.toList.drop 0 = dktX8_isHook_0 := by decide +kernel
theorem dX8_isHook_0 : decode cX8_isHook 0 = .ok (.iload_n 1, 1) := dk_27 (dk_at dksX8_isHook_0 0 rfl rfl)
theorem dX8_isHook_1 : decode cX8_isHook 1 = .ok (.iconst 0, 1) := dk_3 (dk_at dksX8_isHook_0 1 rfl rfl)
theorem dX8_isHook_2 : decode cX8_isHook 2 = .ok (.aload_n 0, 1) := dk_42 (dk_at dksX8_isHook_0 2 rfl rfl)
theorem dX8_isHook_3 : decode cX8_isHook 3 = .ok (.getfield 7, 3) := dk_180 0 7 (dk_at dksX8_isHook_0 3 rfl rfl)
theorem dX8_isHook_6 : decode cX8_isHook 6 = .ok (.iconst 4, 1) := dk_7 (dk_at dksX8_isHook_0 6 rfl rfl)
theorem dX8_isHook_7 : decode cX8_isHook 7 = .ok (.iaload, 1) := dk_46 (dk_at dksX8_isHook_0 7 rfl rfl)
theorem dX8_isHook_8 : decode cX8_isHook 8 = .ok (.iconst 1, 1) := dk_4 (dk_at dksX8_isHook_0 8 rfl rfl)
theorem dX8_isHook_9 : decode cX8_isHook 9 = .ok (.isub, 1) := dk_100 (dk_at dksX8_isHook_0 9 rfl rfl)
theorem dX8_isHook_10 : decode cX8_isHook 10 = .ok (.invokestatic 53, 3) := dk_184 0 53 (dk_at dksX8_isHook_0 10 rfl rfl)
theorem dX8_isHook_13 : decode cX8_isHook 13 = .ok (.ireturn, 1) := dk_172 (dk_at dksX8_isHook_0 13 rfl rfl)
abbrev cX8_wish : ByteArray := prog_21_method_56_code
def yX8_wish : MethodName := ⟨RX8, "wish", "(II)I"⟩
def dkwX8_wish_5 : List UInt8 := [180, 0, 7, 16, 72, 16, 10, 27, 104, 96, 21, 4, 96, 46, 172]
abbrev dktX8_wish_5 : List UInt8 := dkwX8_wish_5 ++ []
def dkwX8_wish_4 : List UInt8 := [96, 21, 4, 96, 46, 42, 180, 0, 7, 6, 46, 162, 0, 6, 132, 3, 255, 132, 4, 1, 167, 255, 198, 42]
abbrev dktX8_wish_4 : List UInt8 := dkwX8_wish_4 ++ dktX8_wish_5
def dkwX8_wish_3 : List UInt8 := [96, 21, 4, 96, 46, 42, 180, 0, 7, 6, 46, 161, 0, 36, 42, 180, 0, 7, 16, 72, 16, 10, 27, 104]
abbrev dktX8_wish_3 : List UInt8 := dkwX8_wish_3 ++ dktX8_wish_4
def dkwX8_wish_2 : List UInt8 := [167, 0, 4, 2, 172, 28, 62, 3, 54, 4, 29, 157, 0, 27, 42, 180, 0, 7, 16, 72, 16, 10, 27, 104]
abbrev dktX8_wish_2 : List UInt8 := dkwX8_wish_2 ++ dktX8_wish_3
def dkwX8_wish_1 : List UInt8 := [28, 3, 42, 180, 0, 7, 6, 46, 4, 100, 184, 0, 53, 154, 0, 16, 42, 180, 0, 50, 158, 0, 7, 3]
abbrev dktX8_wish_1 : List UInt8 := dkwX8_wish_1 ++ dktX8_wish_2
def dkwX8_wish_0 : List UInt8 := [42, 42, 27, 182, 0, 250, 154, 0, 7, 4, 167, 0, 4, 3, 181, 0, 50, 42, 180, 0, 50, 157, 0, 19]
abbrev dktX8_wish_0 : List UInt8 := dkwX8_wish_0 ++ dktX8_wish_1
theorem dksX8_wish_0 : cX8_wish.data.toList.drop 0 = dktX8_wish_0 := by decide +kernel
theorem dksX8_wish_1 : cX8_wish.data.toList.drop 24 = dktX8_wish_1 := dk_seg dksX8_wish_0 24 rfl rfl
theorem dksX8_wish_2 : cX8_wish.data.toList.drop 48 = dktX8_wish_2 := dk_seg dksX8_wish_1 24 rfl rfl
theorem dksX8_wish_3 : cX8_wish.data.toList.drop 72 = dktX8_wish_3 := dk_seg dksX8_wish_2 24 rfl rfl
theorem dksX8_wish_4 : cX8_wish.data.toList.drop 96 = dktX8_wish_4 := dk_seg dksX8_wish_3 24 rfl rfl
theorem dksX8_wish_5 : cX8_wish.data.toList.drop 120 = dktX8_wish_5 := dk_seg dksX8_wish_4 24 rfl rfl
theorem dX8_wish_0 : decode cX8_wish 0 = .ok (.aload_n 0, 1) := dk_42 (dk_at dksX8_wish_0 0 rfl rfl)
theorem dX8_wish_1 : decode cX8_wish 1 = .ok (.aload_n 0, 1) := dk_42 (dk_at dksX8_wish_0 1 rfl rfl)
theorem dX8_wish_2 : decode cX8_wish 2 = .ok (.iload_n 1, 1) := dk_27 (dk_at dksX8_wish_0 2 rfl rfl)
theorem dX8_wish_3 : decode cX8_wish 3 = .ok (.invokevirtual 250, 3) := dk_182 0 250 (dk_at dksX8_wish_0 3 rfl rfl)
theorem dX8_wish_6 : decode cX8_wish 6 = .ok (.ifCond .ne 7, 3) := dk_154 0 7 (dk_at dksX8_wish_0 6 rfl rfl)
theorem dX8_wish_9 : decode cX8_wish 9 = .ok (.iconst 1, 1) := dk_4 (dk_at dksX8_wish_0 9 rfl rfl)
theorem dX8_wish_10 : decode cX8_wish 10 = .ok (.goto 4, 3) := dk_167 0 4 (dk_at dksX8_wish_0 10 rfl rfl)
theorem dX8_wish_13 : decode cX8_wish 13 = .ok (.iconst 0, 1) := dk_3 (dk_at dksX8_wish_0 13 rfl rfl)
theorem dX8_wish_14 : decode cX8_wish 14 = .ok (.putfield 50, 3) := dk_181 0 50 (dk_at dksX8_wish_0 14 rfl rfl)
theorem dX8_wish_17 : decode cX8_wish 17 = .ok (.aload_n 0, 1) := dk_42 (dk_at dksX8_wish_0 17 rfl rfl)
theorem dX8_wish_18 : decode cX8_wish 18 = .ok (.getfield 50, 3) := dk_180 0 50 (dk_at dksX8_wish_0 18 rfl rfl)
theorem dX8_wish_21 : decode cX8_wish 21 = .ok (.ifCond .gt 19, 3) := dk_157 0 19 (dk_at dksX8_wish_0 21 rfl rfl)
theorem dX8_wish_24 : decode cX8_wish 24 = .ok (.iload_n 2, 1) := dk_28 (dk_at dksX8_wish_1 0 rfl rfl)
theorem dX8_wish_25 : decode cX8_wish 25 = .ok (.iconst 0, 1) := dk_3 (dk_at dksX8_wish_1 1 rfl rfl)
theorem dX8_wish_26 : decode cX8_wish 26 = .ok (.aload_n 0, 1) := dk_42 (dk_at dksX8_wish_1 2 rfl rfl)
theorem dX8_wish_27 : decode cX8_wish 27 = .ok (.getfield 7, 3) := dk_180 0 7 (dk_at dksX8_wish_1 3 rfl rfl)
theorem dX8_wish_30 : decode cX8_wish 30 = .ok (.iconst 3, 1) := dk_6 (dk_at dksX8_wish_1 6 rfl rfl)
theorem dX8_wish_31 : decode cX8_wish 31 = .ok (.iaload, 1) := dk_46 (dk_at dksX8_wish_1 7 rfl rfl)
theorem dX8_wish_32 : decode cX8_wish 32 = .ok (.iconst 1, 1) := dk_4 (dk_at dksX8_wish_1 8 rfl rfl)
theorem dX8_wish_33 : decode cX8_wish 33 = .ok (.isub, 1) := dk_100 (dk_at dksX8_wish_1 9 rfl rfl)
theorem dX8_wish_34 : decode cX8_wish 34 = .ok (.invokestatic 53, 3) := dk_184 0 53 (dk_at dksX8_wish_1 10 rfl rfl)
theorem dX8_wish_37 : decode cX8_wish 37 = .ok (.ifCond .ne 16, 3) := dk_154 0 16 (dk_at dksX8_wish_1 13 rfl rfl)
theorem dX8_wish_40 : decode cX8_wish 40 = .ok (.aload_n 0, 1) := dk_42 (dk_at dksX8_wish_1 16 rfl rfl)
theorem dX8_wish_41 : decode cX8_wish 41 = .ok (.getfield 50, 3) := dk_180 0 50 (dk_at dksX8_wish_1 17 rfl rfl)
theorem dX8_wish_44 : decode cX8_wish 44 = .ok (.ifCond .le 7, 3) := dk_158 0 7 (dk_at dksX8_wish_1 20 rfl rfl)
theorem dX8_wish_47 : decode cX8_wish 47 = .ok (.iconst 0, 1) := dk_3 (dk_at dksX8_wish_1 23 rfl rfl)
theorem dX8_wish_48 : decode cX8_wish 48 = .ok (.goto 4, 3) := dk_167 0 4 (dk_at dksX8_wish_2 0 rfl rfl)
theorem dX8_wish_51 : decode cX8_wish 51 = .ok (.iconst (-1), 1) := dk_2 (dk_at dksX8_wish_2 3 rfl rfl)
theorem dX8_wish_52 : decode cX8_wish 52 = .ok (.ireturn, 1) := dk_172 (dk_at dksX8_wish_2 4 rfl rfl)
theorem dX8_wish_53 : decode cX8_wish 53 = .ok (.iload_n 2, 1) := dk_28 (dk_at dksX8_wish_2 5 rfl rfl)
theorem dX8_wish_54 : decode cX8_wish 54 = .ok (.istore_n 3, 1) := dk_62 (dk_at dksX8_wish_2 6 rfl rfl)
theorem dX8_wish_55 : decode cX8_wish 55 = .ok (.iconst 0, 1) := dk_3 (dk_at dksX8_wish_2 7 rfl rfl)
theorem dX8_wish_56 : decode cX8_wish 56 = .ok (.istore 4, 2) := dk_54 4 (dk_at dksX8_wish_2 8 rfl rfl)
theorem dX8_wish_58 : decode cX8_wish 58 = .ok (.iload_n 3, 1) := dk_29 (dk_at dksX8_wish_2 10 rfl rfl)
theorem dX8_wish_59 : decode cX8_wish 59 = .ok (.ifCond .gt 27, 3) := dk_157 0 27 (dk_at dksX8_wish_2 11 rfl rfl)
theorem dX8_wish_62 : decode cX8_wish 62 = .ok (.aload_n 0, 1) := dk_42 (dk_at dksX8_wish_2 14 rfl rfl)
theorem dX8_wish_63 : decode cX8_wish 63 = .ok (.getfield 7, 3) := dk_180 0 7 (dk_at dksX8_wish_2 15 rfl rfl)
theorem dX8_wish_66 : decode cX8_wish 66 = .ok (.bipush 72, 2) := dk_16 72 (dk_at dksX8_wish_2 18 rfl rfl)
theorem dX8_wish_68 : decode cX8_wish 68 = .ok (.bipush 10, 2) := dk_16 10 (dk_at dksX8_wish_2 20 rfl rfl)
theorem dX8_wish_70 : decode cX8_wish 70 = .ok (.iload_n 1, 1) := dk_27 (dk_at dksX8_wish_2 22 rfl rfl)
theorem dX8_wish_71 : decode cX8_wish 71 = .ok (.imul, 1) := dk_104 (dk_at dksX8_wish_2 23 rfl rfl)
theorem dX8_wish_72 : decode cX8_wish 72 = .ok (.iadd, 1) := dk_96 (dk_at dksX8_wish_3 0 rfl rfl)
theorem dX8_wish_73 : decode cX8_wish 73 = .ok (.iload 4, 2) := dk_21 4 (dk_at dksX8_wish_3 1 rfl rfl)
theorem dX8_wish_75 : decode cX8_wish 75 = .ok (.iadd, 1) := dk_96 (dk_at dksX8_wish_3 3 rfl rfl)
theorem dX8_wish_76 : decode cX8_wish 76 = .ok (.iaload, 1) := dk_46 (dk_at dksX8_wish_3 4 rfl rfl)
theorem dX8_wish_77 : decode cX8_wish 77 = .ok (.aload_n 0, 1) := dk_42 (dk_at dksX8_wish_3 5 rfl rfl)
theorem dX8_wish_78 : decode cX8_wish 78 = .ok (.getfield 7, 3) := dk_180 0 7 (dk_at dksX8_wish_3 6 rfl rfl)
theorem dX8_wish_81 : decode cX8_wish 81 = .ok (.iconst 3, 1) := dk_6 (dk_at dksX8_wish_3 9 rfl rfl)
theorem dX8_wish_82 : decode cX8_wish 82 = .ok (.iaload, 1) := dk_46 (dk_at dksX8_wish_3 10 rfl rfl)
theorem dX8_wish_83 : decode cX8_wish 83 = .ok (.if_icmp .lt 36, 3) := dk_161 0 36 (dk_at dksX8_wish_3 11 rfl rfl)
theorem dX8_wish_86 : decode cX8_wish 86 = .ok (.aload_n 0, 1) := dk_42 (dk_at dksX8_wish_3 14 rfl rfl)
theorem dX8_wish_87 : decode cX8_wish 87 = .ok (.getfield 7, 3) := dk_180 0 7 (dk_at dksX8_wish_3 15 rfl rfl)
theorem dX8_wish_90 : decode cX8_wish 90 = .ok (.bipush 72, 2) := dk_16 72 (dk_at dksX8_wish_3 18 rfl rfl)
theorem dX8_wish_92 : decode cX8_wish 92 = .ok (.bipush 10, 2) := dk_16 10 (dk_at dksX8_wish_3 20 rfl rfl)
theorem dX8_wish_94 : decode cX8_wish 94 = .ok (.iload_n 1, 1) := dk_27 (dk_at dksX8_wish_3 22 rfl rfl)
theorem dX8_wish_95 : decode cX8_wish 95 = .ok (.imul, 1) := dk_104 (dk_at dksX8_wish_3 23 rfl rfl)
theorem dX8_wish_96 : decode cX8_wish 96 = .ok (.iadd, 1) := dk_96 (dk_at dksX8_wish_4 0 rfl rfl)
theorem dX8_wish_97 : decode cX8_wish 97 = .ok (.iload 4, 2) := dk_21 4 (dk_at dksX8_wish_4 1 rfl rfl)
theorem dX8_wish_99 : decode cX8_wish 99 = .ok (.iadd, 1) := dk_96 (dk_at dksX8_wish_4 3 rfl rfl)
theorem dX8_wish_100 : decode cX8_wish 100 = .ok (.iaload, 1) := dk_46 (dk_at dksX8_wish_4 4 rfl rfl)
theorem dX8_wish_101 : decode cX8_wish 101 = .ok (.aload_n 0, 1) := dk_42 (dk_at dksX8_wish_4 5 rfl rfl)
theorem dX8_wish_102 : decode cX8_wish 102 = .ok (.getfield 7, 3) := dk_180 0 7 (dk_at dksX8_wish_4 6 rfl rfl)
theorem dX8_wish_105 : decode cX8_wish 105 = .ok (.iconst 3, 1) := dk_6 (dk_at dksX8_wish_4 9 rfl rfl)
theorem dX8_wish_106 : decode cX8_wish 106 = .ok (.iaload, 1) := dk_46 (dk_at dksX8_wish_4 10 rfl rfl)
theorem dX8_wish_107 : decode cX8_wish 107 = .ok (.if_icmp .ge 6, 3) := dk_162 0 6 (dk_at dksX8_wish_4 11 rfl rfl)
theorem dX8_wish_110 : decode cX8_wish 110 = .ok (.iinc 3 (-1), 3) := dk_132 3 255 (dk_at dksX8_wish_4 14 rfl rfl)
theorem dX8_wish_113 : decode cX8_wish 113 = .ok (.iinc 4 1, 3) := dk_132 4 1 (dk_at dksX8_wish_4 17 rfl rfl)
theorem dX8_wish_116 : decode cX8_wish 116 = .ok (.goto (-58), 3) := dk_167 255 198 (dk_at dksX8_wish_4 20 rfl rfl)
theorem dX8_wish_119 : decode cX8_wish 119 = .ok (.aload_n 0, 1) := dk_42 (dk_at dksX8_wish_4 23 rfl rfl)
theorem dX8_wish_120 : decode cX8_wish 120 = .ok (.getfield 7, 3) := dk_180 0 7 (dk_at dksX8_wish_5 0 rfl rfl)
theorem dX8_wish_123 : decode cX8_wish 123 = .ok (.bipush 72, 2) := dk_16 72 (dk_at dksX8_wish_5 3 rfl rfl)
theorem dX8_wish_125 : decode cX8_wish 125 = .ok (.bipush 10, 2) := dk_16 10 (dk_at dksX8_wish_5 5 rfl rfl)
theorem dX8_wish_127 : decode cX8_wish 127 = .ok (.iload_n 1, 1) := dk_27 (dk_at dksX8_wish_5 7 rfl rfl)
theorem dX8_wish_128 : decode cX8_wish 128 = .ok (.imul, 1) := dk_104 (dk_at dksX8_wish_5 8 rfl rfl)
theorem dX8_wish_129 : decode cX8_wish 129 = .ok (.iadd, 1) := dk_96 (dk_at dksX8_wish_5 9 rfl rfl)
theorem dX8_wish_130 : decode cX8_wish 130 = .ok (.iload 4, 2) := dk_21 4 (dk_at dksX8_wish_5 10 rfl rfl)
theorem dX8_wish_132 : decode cX8_wish 132 = .ok (.iadd, 1) := dk_96 (dk_at dksX8_wish_5 12 rfl rfl)
theorem dX8_wish_133 : decode cX8_wish 133 = .ok (.iaload, 1) := dk_46 (dk_at dksX8_wish_5 13 rfl rfl)
theorem dX8_wish_134 : decode cX8_wish 134 = .ok (.ireturn, 1) := dk_172 (dk_at dksX8_wish_5 14 rfl rfl)
abbrev cX8_thinks : ByteArray := prog_21_method_58_code
def yX8_thinks : MethodName := ⟨RX8, "thinks", "(II)I"⟩
def dkwX8_thinks_1 : List UInt8 := [182, 1, 12, 172]
abbrev dktX8_thinks_1 : List UInt8 := dkwX8_thinks_1 ++ []
def dkwX8_thinks_0 : List UInt8 := [42, 42, 27, 28, 182, 1, 9, 181, 0, 50, 42, 180, 0, 50, 158, 0, 7, 3, 167, 0, 9, 42, 27, 28]
abbrev dktX8_thinks_0 : List UInt8 := dkwX8_thinks_0 ++ dktX8_thinks_1
theorem dksX8_thinks_0 : cX8_thinks.data.toList.drop 0 = dktX8_thinks_0 := by decide +kernel
theorem dksX8_thinks_1 : cX8_thinks.data.toList.drop 24 = dktX8_thinks_1 := dk_seg dksX8_thinks_0 24 rfl rfl
theorem dX8_thinks_0 : decode cX8_thinks 0 = .ok (.aload_n 0, 1) := dk_42 (dk_at dksX8_thinks_0 0 rfl rfl)
theorem dX8_thinks_1 : decode cX8_thinks 1 = .ok (.aload_n 0, 1) := dk_42 (dk_at dksX8_thinks_0 1 rfl rfl)
theorem dX8_thinks_2 : decode cX8_thinks 2 = .ok (.iload_n 1, 1) := dk_27 (dk_at dksX8_thinks_0 2 rfl rfl)
theorem dX8_thinks_3 : decode cX8_thinks 3 = .ok (.iload_n 2, 1) := dk_28 (dk_at dksX8_thinks_0 3 rfl rfl)
theorem dX8_thinks_4 : decode cX8_thinks 4 = .ok (.invokevirtual 265, 3) := dk_182 1 9 (dk_at dksX8_thinks_0 4 rfl rfl)
theorem dX8_thinks_7 : decode cX8_thinks 7 = .ok (.putfield 50, 3) := dk_181 0 50 (dk_at dksX8_thinks_0 7 rfl rfl)
theorem dX8_thinks_10 : decode cX8_thinks 10 = .ok (.aload_n 0, 1) := dk_42 (dk_at dksX8_thinks_0 10 rfl rfl)
theorem dX8_thinks_11 : decode cX8_thinks 11 = .ok (.getfield 50, 3) := dk_180 0 50 (dk_at dksX8_thinks_0 11 rfl rfl)
theorem dX8_thinks_14 : decode cX8_thinks 14 = .ok (.ifCond .le 7, 3) := dk_158 0 7 (dk_at dksX8_thinks_0 14 rfl rfl)
theorem dX8_thinks_17 : decode cX8_thinks 17 = .ok (.iconst 0, 1) := dk_3 (dk_at dksX8_thinks_0 17 rfl rfl)
theorem dX8_thinks_18 : decode cX8_thinks 18 = .ok (.goto 9, 3) := dk_167 0 9 (dk_at dksX8_thinks_0 18 rfl rfl)
theorem dX8_thinks_21 : decode cX8_thinks 21 = .ok (.aload_n 0, 1) := dk_42 (dk_at dksX8_thinks_0 21 rfl rfl)
theorem dX8_thinks_22 : decode cX8_thinks 22 = .ok (.iload_n 1, 1) := dk_27 (dk_at dksX8_thinks_0 22 rfl rfl)
theorem dX8_thinks_23 : decode cX8_thinks 23 = .ok (.iload_n 2, 1) := dk_28 (dk_at dksX8_thinks_0 23 rfl rfl)
theorem dX8_thinks_24 : decode cX8_thinks 24 = .ok (.invokevirtual 268, 3) := dk_182 1 12 (dk_at dksX8_thinks_1 0 rfl rfl)
theorem dX8_thinks_27 : decode cX8_thinks 27 = .ok (.ireturn, 1) := dk_172 (dk_at dksX8_thinks_1 3 rfl rfl)
abbrev cX8_two : ByteArray := prog_21_method_57_code
def yX8_two : MethodName := ⟨RX8, "two", "(II)I"⟩
def dkwX8_two_1 : List UInt8 := [160, 0, 7, 5, 167, 0, 4, 3, 172]
abbrev dktX8_two_1 : List UInt8 := dkwX8_two_1 ++ []
def dkwX8_two_0 : List UInt8 := [42, 27, 182, 0, 250, 153, 0, 11, 42, 28, 182, 0, 250, 154, 0, 7, 4, 167, 0, 13, 27, 28]
abbrev dktX8_two_0 : List UInt8 := dkwX8_two_0 ++ dktX8_two_1
theorem dksX8_two_0 : cX8_two.data.toList.drop 0 = dktX8_two_0 := by decide +kernel
theorem dksX8_two_1 : cX8_two.data.toList.drop 22 = dktX8_two_1 := dk_seg dksX8_two_0 22 rfl rfl
theorem dX8_two_0 : decode cX8_two 0 = .ok (.aload_n 0, 1) := dk_42 (dk_at dksX8_two_0 0 rfl rfl)
theorem dX8_two_1 : decode cX8_two 1 = .ok (.iload_n 1, 1) := dk_27 (dk_at dksX8_two_0 1 rfl rfl)
theorem dX8_two_2 : decode cX8_two 2 = .ok (.invokevirtual 250, 3) := dk_182 0 250 (dk_at dksX8_two_0 2 rfl rfl)
theorem dX8_two_5 : decode cX8_two 5 = .ok (.ifCond .eq 11, 3) := dk_153 0 11 (dk_at dksX8_two_0 5 rfl rfl)
theorem dX8_two_8 : decode cX8_two 8 = .ok (.aload_n 0, 1) := dk_42 (dk_at dksX8_two_0 8 rfl rfl)
theorem dX8_two_9 : decode cX8_two 9 = .ok (.iload_n 2, 1) := dk_28 (dk_at dksX8_two_0 9 rfl rfl)
theorem dX8_two_10 : decode cX8_two 10 = .ok (.invokevirtual 250, 3) := dk_182 0 250 (dk_at dksX8_two_0 10 rfl rfl)
theorem dX8_two_13 : decode cX8_two 13 = .ok (.ifCond .ne 7, 3) := dk_154 0 7 (dk_at dksX8_two_0 13 rfl rfl)
theorem dX8_two_16 : decode cX8_two 16 = .ok (.iconst 1, 1) := dk_4 (dk_at dksX8_two_0 16 rfl rfl)
theorem dX8_two_17 : decode cX8_two 17 = .ok (.goto 13, 3) := dk_167 0 13 (dk_at dksX8_two_0 17 rfl rfl)
theorem dX8_two_20 : decode cX8_two 20 = .ok (.iload_n 1, 1) := dk_27 (dk_at dksX8_two_0 20 rfl rfl)
theorem dX8_two_21 : decode cX8_two 21 = .ok (.iload_n 2, 1) := dk_28 (dk_at dksX8_two_0 21 rfl rfl)
theorem dX8_two_22 : decode cX8_two 22 = .ok (.if_icmp .ne 7, 3) := dk_160 0 7 (dk_at dksX8_two_1 0 rfl rfl)
theorem dX8_two_25 : decode cX8_two 25 = .ok (.iconst 2, 1) := dk_5 (dk_at dksX8_two_1 3 rfl rfl)
theorem dX8_two_26 : decode cX8_two 26 = .ok (.goto 4, 3) := dk_167 0 4 (dk_at dksX8_two_1 4 rfl rfl)
theorem dX8_two_29 : decode cX8_two 29 = .ok (.iconst 0, 1) := dk_3 (dk_at dksX8_two_1 7 rfl rfl)
theorem dX8_two_30 : decode cX8_two 30 = .ok (.ireturn, 1) := dk_172 (dk_at dksX8_two_1 8 rfl rfl)
abbrev cX8_thought : ByteArray := prog_21_method_12_code
def yX8_thought : MethodName := ⟨RX8, "thought", "(II)I"⟩
def dkwX8_thought_0 : List UInt8 := [42, 180, 0, 7, 17, 0, 172, 16, 10, 27, 104, 96, 28, 96, 46, 172]
abbrev dktX8_thought_0 : List UInt8 := dkwX8_thought_0 ++ []
theorem dksX8_thought_0 : cX8_thought.data.toList.drop 0 = dktX8_thought_0 := by decide +kernel
theorem dX8_thought_0 : decode cX8_thought 0 = .ok (.aload_n 0, 1) := dk_42 (dk_at dksX8_thought_0 0 rfl rfl)
theorem dX8_thought_1 : decode cX8_thought 1 = .ok (.getfield 7, 3) := dk_180 0 7 (dk_at dksX8_thought_0 1 rfl rfl)
theorem dX8_thought_4 : decode cX8_thought 4 = .ok (.sipush 172, 3) := dk_17 0 172 (dk_at dksX8_thought_0 4 rfl rfl)
theorem dX8_thought_7 : decode cX8_thought 7 = .ok (.bipush 10, 2) := dk_16 10 (dk_at dksX8_thought_0 7 rfl rfl)
theorem dX8_thought_9 : decode cX8_thought 9 = .ok (.iload_n 1, 1) := dk_27 (dk_at dksX8_thought_0 9 rfl rfl)
theorem dX8_thought_10 : decode cX8_thought 10 = .ok (.imul, 1) := dk_104 (dk_at dksX8_thought_0 10 rfl rfl)
theorem dX8_thought_11 : decode cX8_thought 11 = .ok (.iadd, 1) := dk_96 (dk_at dksX8_thought_0 11 rfl rfl)
theorem dX8_thought_12 : decode cX8_thought 12 = .ok (.iload_n 2, 1) := dk_28 (dk_at dksX8_thought_0 12 rfl rfl)
theorem dX8_thought_13 : decode cX8_thought 13 = .ok (.iadd, 1) := dk_96 (dk_at dksX8_thought_0 13 rfl rfl)
theorem dX8_thought_14 : decode cX8_thought 14 = .ok (.iaload, 1) := dk_46 (dk_at dksX8_thought_0 14 rfl rfl)
theorem dX8_thought_15 : decode cX8_thought 15 = .ok (.ireturn, 1) := dk_172 (dk_at dksX8_thought_0 15 rfl rfl)
abbrev cX8_hand : ByteArray := prog_21_method_65_code
def yX8_hand : MethodName := ⟨RX8, "hand", "(II)I"⟩
def dkwX8_hand_3 : List UInt8 := [42, 182, 1, 23, 42, 27, 28, 182, 1, 26, 172]
abbrev dktX8_hand_3 : List UInt8 := dkwX8_hand_3 ++ []
def dkwX8_hand_2 : List UInt8 := [28, 96, 46, 2, 159, 0, 7, 5, 167, 0, 4, 3, 181, 0, 50, 42, 180, 0, 50, 158, 0, 5, 3, 172]
abbrev dktX8_hand_2 : List UInt8 := dkwX8_hand_2 ++ dktX8_hand_3
def dkwX8_hand_1 : List UInt8 := [182, 0, 57, 2, 159, 0, 27, 42, 27, 6, 182, 0, 57, 2, 160, 0, 17, 42, 180, 0, 7, 17, 1, 16]
abbrev dktX8_hand_1 : List UInt8 := dkwX8_hand_1 ++ dktX8_hand_2
def dkwX8_hand_0 : List UInt8 := [42, 42, 27, 182, 0, 250, 153, 0, 11, 42, 28, 182, 1, 6, 154, 0, 7, 4, 167, 0, 42, 42, 27, 5]
abbrev dktX8_hand_0 : List UInt8 := dkwX8_hand_0 ++ dktX8_hand_1
theorem dksX8_hand_0 : cX8_hand.data.toList.drop 0 = dktX8_hand_0 := by decide +kernel
theorem dksX8_hand_1 : cX8_hand.data.toList.drop 24 = dktX8_hand_1 := dk_seg dksX8_hand_0 24 rfl rfl
theorem dksX8_hand_2 : cX8_hand.data.toList.drop 48 = dktX8_hand_2 := dk_seg dksX8_hand_1 24 rfl rfl
theorem dksX8_hand_3 : cX8_hand.data.toList.drop 72 = dktX8_hand_3 := dk_seg dksX8_hand_2 24 rfl rfl
theorem dX8_hand_0 : decode cX8_hand 0 = .ok (.aload_n 0, 1) := dk_42 (dk_at dksX8_hand_0 0 rfl rfl)
theorem dX8_hand_1 : decode cX8_hand 1 = .ok (.aload_n 0, 1) := dk_42 (dk_at dksX8_hand_0 1 rfl rfl)
theorem dX8_hand_2 : decode cX8_hand 2 = .ok (.iload_n 1, 1) := dk_27 (dk_at dksX8_hand_0 2 rfl rfl)
theorem dX8_hand_3 : decode cX8_hand 3 = .ok (.invokevirtual 250, 3) := dk_182 0 250 (dk_at dksX8_hand_0 3 rfl rfl)
theorem dX8_hand_6 : decode cX8_hand 6 = .ok (.ifCond .eq 11, 3) := dk_153 0 11 (dk_at dksX8_hand_0 6 rfl rfl)
theorem dX8_hand_9 : decode cX8_hand 9 = .ok (.aload_n 0, 1) := dk_42 (dk_at dksX8_hand_0 9 rfl rfl)
theorem dX8_hand_10 : decode cX8_hand 10 = .ok (.iload_n 2, 1) := dk_28 (dk_at dksX8_hand_0 10 rfl rfl)
theorem dX8_hand_11 : decode cX8_hand 11 = .ok (.invokevirtual 262, 3) := dk_182 1 6 (dk_at dksX8_hand_0 11 rfl rfl)
theorem dX8_hand_14 : decode cX8_hand 14 = .ok (.ifCond .ne 7, 3) := dk_154 0 7 (dk_at dksX8_hand_0 14 rfl rfl)
theorem dX8_hand_17 : decode cX8_hand 17 = .ok (.iconst 1, 1) := dk_4 (dk_at dksX8_hand_0 17 rfl rfl)
theorem dX8_hand_18 : decode cX8_hand 18 = .ok (.goto 42, 3) := dk_167 0 42 (dk_at dksX8_hand_0 18 rfl rfl)
theorem dX8_hand_21 : decode cX8_hand 21 = .ok (.aload_n 0, 1) := dk_42 (dk_at dksX8_hand_0 21 rfl rfl)
theorem dX8_hand_22 : decode cX8_hand 22 = .ok (.iload_n 1, 1) := dk_27 (dk_at dksX8_hand_0 22 rfl rfl)
theorem dX8_hand_23 : decode cX8_hand 23 = .ok (.iconst 2, 1) := dk_5 (dk_at dksX8_hand_0 23 rfl rfl)
theorem dX8_hand_24 : decode cX8_hand 24 = .ok (.invokevirtual 57, 3) := dk_182 0 57 (dk_at dksX8_hand_1 0 rfl rfl)
theorem dX8_hand_27 : decode cX8_hand 27 = .ok (.iconst (-1), 1) := dk_2 (dk_at dksX8_hand_1 3 rfl rfl)
theorem dX8_hand_28 : decode cX8_hand 28 = .ok (.if_icmp .eq 27, 3) := dk_159 0 27 (dk_at dksX8_hand_1 4 rfl rfl)
theorem dX8_hand_31 : decode cX8_hand 31 = .ok (.aload_n 0, 1) := dk_42 (dk_at dksX8_hand_1 7 rfl rfl)
theorem dX8_hand_32 : decode cX8_hand 32 = .ok (.iload_n 1, 1) := dk_27 (dk_at dksX8_hand_1 8 rfl rfl)
theorem dX8_hand_33 : decode cX8_hand 33 = .ok (.iconst 3, 1) := dk_6 (dk_at dksX8_hand_1 9 rfl rfl)
theorem dX8_hand_34 : decode cX8_hand 34 = .ok (.invokevirtual 57, 3) := dk_182 0 57 (dk_at dksX8_hand_1 10 rfl rfl)
theorem dX8_hand_37 : decode cX8_hand 37 = .ok (.iconst (-1), 1) := dk_2 (dk_at dksX8_hand_1 13 rfl rfl)
theorem dX8_hand_38 : decode cX8_hand 38 = .ok (.if_icmp .ne 17, 3) := dk_160 0 17 (dk_at dksX8_hand_1 14 rfl rfl)
theorem dX8_hand_41 : decode cX8_hand 41 = .ok (.aload_n 0, 1) := dk_42 (dk_at dksX8_hand_1 17 rfl rfl)
theorem dX8_hand_42 : decode cX8_hand 42 = .ok (.getfield 7, 3) := dk_180 0 7 (dk_at dksX8_hand_1 18 rfl rfl)
theorem dX8_hand_45 : decode cX8_hand 45 = .ok (.sipush 272, 3) := dk_17 1 16 (dk_at dksX8_hand_1 21 rfl rfl)
theorem dX8_hand_48 : decode cX8_hand 48 = .ok (.iload_n 2, 1) := dk_28 (dk_at dksX8_hand_2 0 rfl rfl)
theorem dX8_hand_49 : decode cX8_hand 49 = .ok (.iadd, 1) := dk_96 (dk_at dksX8_hand_2 1 rfl rfl)
theorem dX8_hand_50 : decode cX8_hand 50 = .ok (.iaload, 1) := dk_46 (dk_at dksX8_hand_2 2 rfl rfl)
theorem dX8_hand_51 : decode cX8_hand 51 = .ok (.iconst (-1), 1) := dk_2 (dk_at dksX8_hand_2 3 rfl rfl)
theorem dX8_hand_52 : decode cX8_hand 52 = .ok (.if_icmp .eq 7, 3) := dk_159 0 7 (dk_at dksX8_hand_2 4 rfl rfl)
theorem dX8_hand_55 : decode cX8_hand 55 = .ok (.iconst 2, 1) := dk_5 (dk_at dksX8_hand_2 7 rfl rfl)
theorem dX8_hand_56 : decode cX8_hand 56 = .ok (.goto 4, 3) := dk_167 0 4 (dk_at dksX8_hand_2 8 rfl rfl)
theorem dX8_hand_59 : decode cX8_hand 59 = .ok (.iconst 0, 1) := dk_3 (dk_at dksX8_hand_2 11 rfl rfl)
theorem dX8_hand_60 : decode cX8_hand 60 = .ok (.putfield 50, 3) := dk_181 0 50 (dk_at dksX8_hand_2 12 rfl rfl)
theorem dX8_hand_63 : decode cX8_hand 63 = .ok (.aload_n 0, 1) := dk_42 (dk_at dksX8_hand_2 15 rfl rfl)
theorem dX8_hand_64 : decode cX8_hand 64 = .ok (.getfield 50, 3) := dk_180 0 50 (dk_at dksX8_hand_2 16 rfl rfl)
theorem dX8_hand_67 : decode cX8_hand 67 = .ok (.ifCond .le 5, 3) := dk_158 0 5 (dk_at dksX8_hand_2 19 rfl rfl)
theorem dX8_hand_70 : decode cX8_hand 70 = .ok (.iconst 0, 1) := dk_3 (dk_at dksX8_hand_2 22 rfl rfl)
theorem dX8_hand_71 : decode cX8_hand 71 = .ok (.ireturn, 1) := dk_172 (dk_at dksX8_hand_2 23 rfl rfl)
theorem dX8_hand_72 : decode cX8_hand 72 = .ok (.aload_n 0, 1) := dk_42 (dk_at dksX8_hand_3 0 rfl rfl)
theorem dX8_hand_73 : decode cX8_hand 73 = .ok (.invokevirtual 279, 3) := dk_182 1 23 (dk_at dksX8_hand_3 1 rfl rfl)
theorem dX8_hand_76 : decode cX8_hand 76 = .ok (.aload_n 0, 1) := dk_42 (dk_at dksX8_hand_3 4 rfl rfl)
theorem dX8_hand_77 : decode cX8_hand 77 = .ok (.iload_n 1, 1) := dk_27 (dk_at dksX8_hand_3 5 rfl rfl)
theorem dX8_hand_78 : decode cX8_hand 78 = .ok (.iload_n 2, 1) := dk_28 (dk_at dksX8_hand_3 6 rfl rfl)
theorem dX8_hand_79 : decode cX8_hand 79 = .ok (.invokevirtual 282, 3) := dk_182 1 26 (dk_at dksX8_hand_3 7 rfl rfl)
theorem dX8_hand_82 : decode cX8_hand 82 = .ok (.ireturn, 1) := dk_172 (dk_at dksX8_hand_3 10 rfl rfl)
abbrev cX8_remembers : ByteArray := prog_21_method_59_code
def yX8_remembers : MethodName := ⟨RX8, "remembers", "()V"⟩
def dkwX8_remembers_4 : List UInt8 := [181, 0, 182, 177]
abbrev dktX8_remembers_4 : List UInt8 := dkwX8_remembers_4 ++ []
def dkwX8_remembers_3 : List UInt8 := [27, 96, 42, 180, 0, 7, 27, 46, 79, 132, 1, 1, 167, 255, 225, 42, 89, 180, 0, 182, 4, 96]
abbrev dktX8_remembers_3 : List UInt8 := dkwX8_remembers_3 ++ dktX8_remembers_4
def dkwX8_remembers_2 : List UInt8 := [181, 0, 182, 3, 60, 27, 17, 2, 72, 162, 0, 30, 42, 180, 0, 19, 17, 2, 72, 42, 180, 0, 182, 104]
abbrev dktX8_remembers_2 : List UInt8 := dkwX8_remembers_2 ++ dktX8_remembers_3
def dkwX8_remembers_1 : List UInt8 := [180, 0, 19, 27, 17, 2, 72, 96, 46, 79, 132, 1, 1, 167, 255, 230, 42, 89, 180, 0, 182, 4, 100]
abbrev dktX8_remembers_1 : List UInt8 := dkwX8_remembers_1 ++ dktX8_remembers_2
def dkwX8_remembers_0 : List UInt8 := [42, 180, 0, 182, 16, 12, 160, 0, 44, 3, 60, 27, 17, 25, 24, 162, 0, 25, 42, 180, 0, 19, 27, 42]
abbrev dktX8_remembers_0 : List UInt8 := dkwX8_remembers_0 ++ dktX8_remembers_1
theorem dksX8_remembers_0 : cX8_remembers.data.toList.drop 0 = dktX8_remembers_0 := by decide +kernel
theorem dksX8_remembers_1 : cX8_remembers.data.toList.drop 24 = dktX8_remembers_1 := dk_seg dksX8_remembers_0 24 rfl rfl
theorem dksX8_remembers_2 : cX8_remembers.data.toList.drop 47 = dktX8_remembers_2 := dk_seg dksX8_remembers_1 23 rfl rfl
theorem dksX8_remembers_3 : cX8_remembers.data.toList.drop 71 = dktX8_remembers_3 := dk_seg dksX8_remembers_2 24 rfl rfl
theorem dksX8_remembers_4 : cX8_remembers.data.toList.drop 93 = dktX8_remembers_4 := dk_seg dksX8_remembers_3 22 rfl rfl
theorem dX8_remembers_0 : decode cX8_remembers 0 = .ok (.aload_n 0, 1) := dk_42 (dk_at dksX8_remembers_0 0 rfl rfl)
theorem dX8_remembers_1 : decode cX8_remembers 1 = .ok (.getfield 182, 3) := dk_180 0 182 (dk_at dksX8_remembers_0 1 rfl rfl)
theorem dX8_remembers_4 : decode cX8_remembers 4 = .ok (.bipush 12, 2) := dk_16 12 (dk_at dksX8_remembers_0 4 rfl rfl)
theorem dX8_remembers_6 : decode cX8_remembers 6 = .ok (.if_icmp .ne 44, 3) := dk_160 0 44 (dk_at dksX8_remembers_0 6 rfl rfl)
theorem dX8_remembers_9 : decode cX8_remembers 9 = .ok (.iconst 0, 1) := dk_3 (dk_at dksX8_remembers_0 9 rfl rfl)
theorem dX8_remembers_10 : decode cX8_remembers 10 = .ok (.istore_n 1, 1) := dk_60 (dk_at dksX8_remembers_0 10 rfl rfl)
theorem dX8_remembers_11 : decode cX8_remembers 11 = .ok (.iload_n 1, 1) := dk_27 (dk_at dksX8_remembers_0 11 rfl rfl)
theorem dX8_remembers_12 : decode cX8_remembers 12 = .ok (.sipush 6424, 3) := dk_17 25 24 (dk_at dksX8_remembers_0 12 rfl rfl)
theorem dX8_remembers_15 : decode cX8_remembers 15 = .ok (.if_icmp .ge 25, 3) := dk_162 0 25 (dk_at dksX8_remembers_0 15 rfl rfl)
theorem dX8_remembers_18 : decode cX8_remembers 18 = .ok (.aload_n 0, 1) := dk_42 (dk_at dksX8_remembers_0 18 rfl rfl)
theorem dX8_remembers_19 : decode cX8_remembers 19 = .ok (.getfield 19, 3) := dk_180 0 19 (dk_at dksX8_remembers_0 19 rfl rfl)
theorem dX8_remembers_22 : decode cX8_remembers 22 = .ok (.iload_n 1, 1) := dk_27 (dk_at dksX8_remembers_0 22 rfl rfl)
theorem dX8_remembers_23 : decode cX8_remembers 23 = .ok (.aload_n 0, 1) := dk_42 (dk_at dksX8_remembers_0 23 rfl rfl)
theorem dX8_remembers_24 : decode cX8_remembers 24 = .ok (.getfield 19, 3) := dk_180 0 19 (dk_at dksX8_remembers_1 0 rfl rfl)
theorem dX8_remembers_27 : decode cX8_remembers 27 = .ok (.iload_n 1, 1) := dk_27 (dk_at dksX8_remembers_1 3 rfl rfl)
theorem dX8_remembers_28 : decode cX8_remembers 28 = .ok (.sipush 584, 3) := dk_17 2 72 (dk_at dksX8_remembers_1 4 rfl rfl)
theorem dX8_remembers_31 : decode cX8_remembers 31 = .ok (.iadd, 1) := dk_96 (dk_at dksX8_remembers_1 7 rfl rfl)
theorem dX8_remembers_32 : decode cX8_remembers 32 = .ok (.iaload, 1) := dk_46 (dk_at dksX8_remembers_1 8 rfl rfl)
theorem dX8_remembers_33 : decode cX8_remembers 33 = .ok (.iastore, 1) := dk_79 (dk_at dksX8_remembers_1 9 rfl rfl)
theorem dX8_remembers_34 : decode cX8_remembers 34 = .ok (.iinc 1 1, 3) := dk_132 1 1 (dk_at dksX8_remembers_1 10 rfl rfl)
theorem dX8_remembers_37 : decode cX8_remembers 37 = .ok (.goto (-26), 3) := dk_167 255 230 (dk_at dksX8_remembers_1 13 rfl rfl)
theorem dX8_remembers_40 : decode cX8_remembers 40 = .ok (.aload_n 0, 1) := dk_42 (dk_at dksX8_remembers_1 16 rfl rfl)
theorem dX8_remembers_41 : decode cX8_remembers 41 = .ok (.dup, 1) := dk_89 (dk_at dksX8_remembers_1 17 rfl rfl)
theorem dX8_remembers_42 : decode cX8_remembers 42 = .ok (.getfield 182, 3) := dk_180 0 182 (dk_at dksX8_remembers_1 18 rfl rfl)
theorem dX8_remembers_45 : decode cX8_remembers 45 = .ok (.iconst 1, 1) := dk_4 (dk_at dksX8_remembers_1 21 rfl rfl)
theorem dX8_remembers_46 : decode cX8_remembers 46 = .ok (.isub, 1) := dk_100 (dk_at dksX8_remembers_1 22 rfl rfl)
theorem dX8_remembers_47 : decode cX8_remembers 47 = .ok (.putfield 182, 3) := dk_181 0 182 (dk_at dksX8_remembers_2 0 rfl rfl)
theorem dX8_remembers_50 : decode cX8_remembers 50 = .ok (.iconst 0, 1) := dk_3 (dk_at dksX8_remembers_2 3 rfl rfl)
theorem dX8_remembers_51 : decode cX8_remembers 51 = .ok (.istore_n 1, 1) := dk_60 (dk_at dksX8_remembers_2 4 rfl rfl)
theorem dX8_remembers_52 : decode cX8_remembers 52 = .ok (.iload_n 1, 1) := dk_27 (dk_at dksX8_remembers_2 5 rfl rfl)
theorem dX8_remembers_53 : decode cX8_remembers 53 = .ok (.sipush 584, 3) := dk_17 2 72 (dk_at dksX8_remembers_2 6 rfl rfl)
theorem dX8_remembers_56 : decode cX8_remembers 56 = .ok (.if_icmp .ge 30, 3) := dk_162 0 30 (dk_at dksX8_remembers_2 9 rfl rfl)
theorem dX8_remembers_59 : decode cX8_remembers 59 = .ok (.aload_n 0, 1) := dk_42 (dk_at dksX8_remembers_2 12 rfl rfl)
theorem dX8_remembers_60 : decode cX8_remembers 60 = .ok (.getfield 19, 3) := dk_180 0 19 (dk_at dksX8_remembers_2 13 rfl rfl)
theorem dX8_remembers_63 : decode cX8_remembers 63 = .ok (.sipush 584, 3) := dk_17 2 72 (dk_at dksX8_remembers_2 16 rfl rfl)
theorem dX8_remembers_66 : decode cX8_remembers 66 = .ok (.aload_n 0, 1) := dk_42 (dk_at dksX8_remembers_2 19 rfl rfl)
theorem dX8_remembers_67 : decode cX8_remembers 67 = .ok (.getfield 182, 3) := dk_180 0 182 (dk_at dksX8_remembers_2 20 rfl rfl)
theorem dX8_remembers_70 : decode cX8_remembers 70 = .ok (.imul, 1) := dk_104 (dk_at dksX8_remembers_2 23 rfl rfl)
theorem dX8_remembers_71 : decode cX8_remembers 71 = .ok (.iload_n 1, 1) := dk_27 (dk_at dksX8_remembers_3 0 rfl rfl)
theorem dX8_remembers_72 : decode cX8_remembers 72 = .ok (.iadd, 1) := dk_96 (dk_at dksX8_remembers_3 1 rfl rfl)
theorem dX8_remembers_73 : decode cX8_remembers 73 = .ok (.aload_n 0, 1) := dk_42 (dk_at dksX8_remembers_3 2 rfl rfl)
theorem dX8_remembers_74 : decode cX8_remembers 74 = .ok (.getfield 7, 3) := dk_180 0 7 (dk_at dksX8_remembers_3 3 rfl rfl)
theorem dX8_remembers_77 : decode cX8_remembers 77 = .ok (.iload_n 1, 1) := dk_27 (dk_at dksX8_remembers_3 6 rfl rfl)
theorem dX8_remembers_78 : decode cX8_remembers 78 = .ok (.iaload, 1) := dk_46 (dk_at dksX8_remembers_3 7 rfl rfl)
theorem dX8_remembers_79 : decode cX8_remembers 79 = .ok (.iastore, 1) := dk_79 (dk_at dksX8_remembers_3 8 rfl rfl)
theorem dX8_remembers_80 : decode cX8_remembers 80 = .ok (.iinc 1 1, 3) := dk_132 1 1 (dk_at dksX8_remembers_3 9 rfl rfl)
theorem dX8_remembers_83 : decode cX8_remembers 83 = .ok (.goto (-31), 3) := dk_167 255 225 (dk_at dksX8_remembers_3 12 rfl rfl)
theorem dX8_remembers_86 : decode cX8_remembers 86 = .ok (.aload_n 0, 1) := dk_42 (dk_at dksX8_remembers_3 15 rfl rfl)
theorem dX8_remembers_87 : decode cX8_remembers 87 = .ok (.dup, 1) := dk_89 (dk_at dksX8_remembers_3 16 rfl rfl)
theorem dX8_remembers_88 : decode cX8_remembers 88 = .ok (.getfield 182, 3) := dk_180 0 182 (dk_at dksX8_remembers_3 17 rfl rfl)
theorem dX8_remembers_91 : decode cX8_remembers 91 = .ok (.iconst 1, 1) := dk_4 (dk_at dksX8_remembers_3 20 rfl rfl)
theorem dX8_remembers_92 : decode cX8_remembers 92 = .ok (.iadd, 1) := dk_96 (dk_at dksX8_remembers_3 21 rfl rfl)
theorem dX8_remembers_93 : decode cX8_remembers 93 = .ok (.putfield 182, 3) := dk_181 0 182 (dk_at dksX8_remembers_4 0 rfl rfl)
theorem dX8_remembers_96 : decode cX8_remembers 96 = .ok (.return_, 1) := dk_177 (dk_at dksX8_remembers_4 3 rfl rfl)
abbrev cX8_handsIn : ByteArray := prog_21_method_62_code
def yX8_handsIn : MethodName := ⟨RX8, "handsIn", "(II)I"⟩
def dkwX8_handsIn_1 : List UInt8 := [182, 0, 100, 42, 27, 6, 28, 182, 0, 100, 42, 27, 28, 29, 3, 182, 1, 19, 29, 172]
abbrev dktX8_handsIn_1 : List UInt8 := dkwX8_handsIn_1 ++ []
def dkwX8_handsIn_0 : List UInt8 := [42, 27, 5, 182, 0, 57, 62, 42, 180, 0, 7, 17, 1, 16, 28, 96, 29, 79, 42, 27, 5, 2]
abbrev dktX8_handsIn_0 : List UInt8 := dkwX8_handsIn_0 ++ dktX8_handsIn_1
theorem dksX8_handsIn_0 : cX8_handsIn.data.toList.drop 0 = dktX8_handsIn_0 := by decide +kernel
theorem dksX8_handsIn_1 : cX8_handsIn.data.toList.drop 22 = dktX8_handsIn_1 := dk_seg dksX8_handsIn_0 22 rfl rfl
theorem dX8_handsIn_0 : decode cX8_handsIn 0 = .ok (.aload_n 0, 1) := dk_42 (dk_at dksX8_handsIn_0 0 rfl rfl)
theorem dX8_handsIn_1 : decode cX8_handsIn 1 = .ok (.iload_n 1, 1) := dk_27 (dk_at dksX8_handsIn_0 1 rfl rfl)
theorem dX8_handsIn_2 : decode cX8_handsIn 2 = .ok (.iconst 2, 1) := dk_5 (dk_at dksX8_handsIn_0 2 rfl rfl)
theorem dX8_handsIn_3 : decode cX8_handsIn 3 = .ok (.invokevirtual 57, 3) := dk_182 0 57 (dk_at dksX8_handsIn_0 3 rfl rfl)
theorem dX8_handsIn_6 : decode cX8_handsIn 6 = .ok (.istore_n 3, 1) := dk_62 (dk_at dksX8_handsIn_0 6 rfl rfl)
theorem dX8_handsIn_7 : decode cX8_handsIn 7 = .ok (.aload_n 0, 1) := dk_42 (dk_at dksX8_handsIn_0 7 rfl rfl)
theorem dX8_handsIn_8 : decode cX8_handsIn 8 = .ok (.getfield 7, 3) := dk_180 0 7 (dk_at dksX8_handsIn_0 8 rfl rfl)
theorem dX8_handsIn_11 : decode cX8_handsIn 11 = .ok (.sipush 272, 3) := dk_17 1 16 (dk_at dksX8_handsIn_0 11 rfl rfl)
theorem dX8_handsIn_14 : decode cX8_handsIn 14 = .ok (.iload_n 2, 1) := dk_28 (dk_at dksX8_handsIn_0 14 rfl rfl)
theorem dX8_handsIn_15 : decode cX8_handsIn 15 = .ok (.iadd, 1) := dk_96 (dk_at dksX8_handsIn_0 15 rfl rfl)
theorem dX8_handsIn_16 : decode cX8_handsIn 16 = .ok (.iload_n 3, 1) := dk_29 (dk_at dksX8_handsIn_0 16 rfl rfl)
theorem dX8_handsIn_17 : decode cX8_handsIn 17 = .ok (.iastore, 1) := dk_79 (dk_at dksX8_handsIn_0 17 rfl rfl)
theorem dX8_handsIn_18 : decode cX8_handsIn 18 = .ok (.aload_n 0, 1) := dk_42 (dk_at dksX8_handsIn_0 18 rfl rfl)
theorem dX8_handsIn_19 : decode cX8_handsIn 19 = .ok (.iload_n 1, 1) := dk_27 (dk_at dksX8_handsIn_0 19 rfl rfl)
theorem dX8_handsIn_20 : decode cX8_handsIn 20 = .ok (.iconst 2, 1) := dk_5 (dk_at dksX8_handsIn_0 20 rfl rfl)
theorem dX8_handsIn_21 : decode cX8_handsIn 21 = .ok (.iconst (-1), 1) := dk_2 (dk_at dksX8_handsIn_0 21 rfl rfl)
theorem dX8_handsIn_22 : decode cX8_handsIn 22 = .ok (.invokevirtual 100, 3) := dk_182 0 100 (dk_at dksX8_handsIn_1 0 rfl rfl)
theorem dX8_handsIn_25 : decode cX8_handsIn 25 = .ok (.aload_n 0, 1) := dk_42 (dk_at dksX8_handsIn_1 3 rfl rfl)
theorem dX8_handsIn_26 : decode cX8_handsIn 26 = .ok (.iload_n 1, 1) := dk_27 (dk_at dksX8_handsIn_1 4 rfl rfl)
theorem dX8_handsIn_27 : decode cX8_handsIn 27 = .ok (.iconst 3, 1) := dk_6 (dk_at dksX8_handsIn_1 5 rfl rfl)
theorem dX8_handsIn_28 : decode cX8_handsIn 28 = .ok (.iload_n 2, 1) := dk_28 (dk_at dksX8_handsIn_1 6 rfl rfl)
theorem dX8_handsIn_29 : decode cX8_handsIn 29 = .ok (.invokevirtual 100, 3) := dk_182 0 100 (dk_at dksX8_handsIn_1 7 rfl rfl)
theorem dX8_handsIn_32 : decode cX8_handsIn 32 = .ok (.aload_n 0, 1) := dk_42 (dk_at dksX8_handsIn_1 10 rfl rfl)
theorem dX8_handsIn_33 : decode cX8_handsIn 33 = .ok (.iload_n 1, 1) := dk_27 (dk_at dksX8_handsIn_1 11 rfl rfl)
theorem dX8_handsIn_34 : decode cX8_handsIn 34 = .ok (.iload_n 2, 1) := dk_28 (dk_at dksX8_handsIn_1 12 rfl rfl)
theorem dX8_handsIn_35 : decode cX8_handsIn 35 = .ok (.iload_n 3, 1) := dk_29 (dk_at dksX8_handsIn_1 13 rfl rfl)
theorem dX8_handsIn_36 : decode cX8_handsIn 36 = .ok (.iconst 0, 1) := dk_3 (dk_at dksX8_handsIn_1 14 rfl rfl)
theorem dX8_handsIn_37 : decode cX8_handsIn 37 = .ok (.invokevirtual 275, 3) := dk_182 1 19 (dk_at dksX8_handsIn_1 15 rfl rfl)
theorem dX8_handsIn_40 : decode cX8_handsIn 40 = .ok (.iload_n 3, 1) := dk_29 (dk_at dksX8_handsIn_1 18 rfl rfl)
theorem dX8_handsIn_41 : decode cX8_handsIn 41 = .ok (.ireturn, 1) := dk_172 (dk_at dksX8_handsIn_1 19 rfl rfl)
abbrev cX8_writes : ByteArray := prog_21_method_61_code
def yX8_writes : MethodName := ⟨RX8, "writes", "(IIII)V"⟩
def dkwX8_writes_4 : List UInt8 := [42, 180, 0, 7, 16, 8, 16, 60, 42, 180, 0, 7, 16, 8, 46, 4, 96, 184, 1, 16, 79, 177]
abbrev dktX8_writes_4 : List UInt8 := dkwX8_writes_4 ++ []
def dkwX8_writes_3 : List UInt8 := [17, 1, 30, 28, 79, 42, 180, 0, 7, 17, 1, 31, 29, 79, 42, 180, 0, 7, 17, 1, 32, 21, 4, 79]
abbrev dktX8_writes_3 : List UInt8 := dkwX8_writes_3 ++ dktX8_writes_4
def dkwX8_writes_2 : List UInt8 := [17, 1, 28, 42, 180, 0, 7, 8, 46, 79, 42, 180, 0, 7, 17, 1, 29, 27, 79, 42, 180, 0, 7]
abbrev dktX8_writes_2 : List UInt8 := dkwX8_writes_2 ++ dktX8_writes_3
def dkwX8_writes_1 : List UInt8 := [180, 0, 7, 17, 1, 28, 21, 5, 96, 8, 100, 46, 79, 132, 5, 255, 167, 255, 223, 42, 180, 0, 7]
abbrev dktX8_writes_1 : List UInt8 := dkwX8_writes_1 ++ dktX8_writes_2
def dkwX8_writes_0 : List UInt8 := [17, 1, 43, 54, 5, 21, 5, 8, 161, 0, 33, 42, 180, 0, 7, 17, 1, 28, 21, 5, 96, 42]
abbrev dktX8_writes_0 : List UInt8 := dkwX8_writes_0 ++ dktX8_writes_1
theorem dksX8_writes_0 : cX8_writes.data.toList.drop 0 = dktX8_writes_0 := by decide +kernel
theorem dksX8_writes_1 : cX8_writes.data.toList.drop 22 = dktX8_writes_1 := dk_seg dksX8_writes_0 22 rfl rfl
theorem dksX8_writes_2 : cX8_writes.data.toList.drop 45 = dktX8_writes_2 := dk_seg dksX8_writes_1 23 rfl rfl
theorem dksX8_writes_3 : cX8_writes.data.toList.drop 68 = dktX8_writes_3 := dk_seg dksX8_writes_2 23 rfl rfl
theorem dksX8_writes_4 : cX8_writes.data.toList.drop 92 = dktX8_writes_4 := dk_seg dksX8_writes_3 24 rfl rfl
theorem dX8_writes_0 : decode cX8_writes 0 = .ok (.sipush 299, 3) := dk_17 1 43 (dk_at dksX8_writes_0 0 rfl rfl)
theorem dX8_writes_3 : decode cX8_writes 3 = .ok (.istore 5, 2) := dk_54 5 (dk_at dksX8_writes_0 3 rfl rfl)
theorem dX8_writes_5 : decode cX8_writes 5 = .ok (.iload 5, 2) := dk_21 5 (dk_at dksX8_writes_0 5 rfl rfl)
theorem dX8_writes_7 : decode cX8_writes 7 = .ok (.iconst 5, 1) := dk_8 (dk_at dksX8_writes_0 7 rfl rfl)
theorem dX8_writes_8 : decode cX8_writes 8 = .ok (.if_icmp .lt 33, 3) := dk_161 0 33 (dk_at dksX8_writes_0 8 rfl rfl)
theorem dX8_writes_11 : decode cX8_writes 11 = .ok (.aload_n 0, 1) := dk_42 (dk_at dksX8_writes_0 11 rfl rfl)
theorem dX8_writes_12 : decode cX8_writes 12 = .ok (.getfield 7, 3) := dk_180 0 7 (dk_at dksX8_writes_0 12 rfl rfl)
theorem dX8_writes_15 : decode cX8_writes 15 = .ok (.sipush 284, 3) := dk_17 1 28 (dk_at dksX8_writes_0 15 rfl rfl)
theorem dX8_writes_18 : decode cX8_writes 18 = .ok (.iload 5, 2) := dk_21 5 (dk_at dksX8_writes_0 18 rfl rfl)
theorem dX8_writes_20 : decode cX8_writes 20 = .ok (.iadd, 1) := dk_96 (dk_at dksX8_writes_0 20 rfl rfl)
theorem dX8_writes_21 : decode cX8_writes 21 = .ok (.aload_n 0, 1) := dk_42 (dk_at dksX8_writes_0 21 rfl rfl)
theorem dX8_writes_22 : decode cX8_writes 22 = .ok (.getfield 7, 3) := dk_180 0 7 (dk_at dksX8_writes_1 0 rfl rfl)
theorem dX8_writes_25 : decode cX8_writes 25 = .ok (.sipush 284, 3) := dk_17 1 28 (dk_at dksX8_writes_1 3 rfl rfl)
theorem dX8_writes_28 : decode cX8_writes 28 = .ok (.iload 5, 2) := dk_21 5 (dk_at dksX8_writes_1 6 rfl rfl)
theorem dX8_writes_30 : decode cX8_writes 30 = .ok (.iadd, 1) := dk_96 (dk_at dksX8_writes_1 8 rfl rfl)
theorem dX8_writes_31 : decode cX8_writes 31 = .ok (.iconst 5, 1) := dk_8 (dk_at dksX8_writes_1 9 rfl rfl)
theorem dX8_writes_32 : decode cX8_writes 32 = .ok (.isub, 1) := dk_100 (dk_at dksX8_writes_1 10 rfl rfl)
theorem dX8_writes_33 : decode cX8_writes 33 = .ok (.iaload, 1) := dk_46 (dk_at dksX8_writes_1 11 rfl rfl)
theorem dX8_writes_34 : decode cX8_writes 34 = .ok (.iastore, 1) := dk_79 (dk_at dksX8_writes_1 12 rfl rfl)
theorem dX8_writes_35 : decode cX8_writes 35 = .ok (.iinc 5 (-1), 3) := dk_132 5 255 (dk_at dksX8_writes_1 13 rfl rfl)
theorem dX8_writes_38 : decode cX8_writes 38 = .ok (.goto (-33), 3) := dk_167 255 223 (dk_at dksX8_writes_1 16 rfl rfl)
theorem dX8_writes_41 : decode cX8_writes 41 = .ok (.aload_n 0, 1) := dk_42 (dk_at dksX8_writes_1 19 rfl rfl)
theorem dX8_writes_42 : decode cX8_writes 42 = .ok (.getfield 7, 3) := dk_180 0 7 (dk_at dksX8_writes_1 20 rfl rfl)
theorem dX8_writes_45 : decode cX8_writes 45 = .ok (.sipush 284, 3) := dk_17 1 28 (dk_at dksX8_writes_2 0 rfl rfl)
theorem dX8_writes_48 : decode cX8_writes 48 = .ok (.aload_n 0, 1) := dk_42 (dk_at dksX8_writes_2 3 rfl rfl)
theorem dX8_writes_49 : decode cX8_writes 49 = .ok (.getfield 7, 3) := dk_180 0 7 (dk_at dksX8_writes_2 4 rfl rfl)
theorem dX8_writes_52 : decode cX8_writes 52 = .ok (.iconst 5, 1) := dk_8 (dk_at dksX8_writes_2 7 rfl rfl)
theorem dX8_writes_53 : decode cX8_writes 53 = .ok (.iaload, 1) := dk_46 (dk_at dksX8_writes_2 8 rfl rfl)
theorem dX8_writes_54 : decode cX8_writes 54 = .ok (.iastore, 1) := dk_79 (dk_at dksX8_writes_2 9 rfl rfl)
theorem dX8_writes_55 : decode cX8_writes 55 = .ok (.aload_n 0, 1) := dk_42 (dk_at dksX8_writes_2 10 rfl rfl)
theorem dX8_writes_56 : decode cX8_writes 56 = .ok (.getfield 7, 3) := dk_180 0 7 (dk_at dksX8_writes_2 11 rfl rfl)
theorem dX8_writes_59 : decode cX8_writes 59 = .ok (.sipush 285, 3) := dk_17 1 29 (dk_at dksX8_writes_2 14 rfl rfl)
theorem dX8_writes_62 : decode cX8_writes 62 = .ok (.iload_n 1, 1) := dk_27 (dk_at dksX8_writes_2 17 rfl rfl)
theorem dX8_writes_63 : decode cX8_writes 63 = .ok (.iastore, 1) := dk_79 (dk_at dksX8_writes_2 18 rfl rfl)
theorem dX8_writes_64 : decode cX8_writes 64 = .ok (.aload_n 0, 1) := dk_42 (dk_at dksX8_writes_2 19 rfl rfl)
theorem dX8_writes_65 : decode cX8_writes 65 = .ok (.getfield 7, 3) := dk_180 0 7 (dk_at dksX8_writes_2 20 rfl rfl)
theorem dX8_writes_68 : decode cX8_writes 68 = .ok (.sipush 286, 3) := dk_17 1 30 (dk_at dksX8_writes_3 0 rfl rfl)
theorem dX8_writes_71 : decode cX8_writes 71 = .ok (.iload_n 2, 1) := dk_28 (dk_at dksX8_writes_3 3 rfl rfl)
theorem dX8_writes_72 : decode cX8_writes 72 = .ok (.iastore, 1) := dk_79 (dk_at dksX8_writes_3 4 rfl rfl)
theorem dX8_writes_73 : decode cX8_writes 73 = .ok (.aload_n 0, 1) := dk_42 (dk_at dksX8_writes_3 5 rfl rfl)
theorem dX8_writes_74 : decode cX8_writes 74 = .ok (.getfield 7, 3) := dk_180 0 7 (dk_at dksX8_writes_3 6 rfl rfl)
theorem dX8_writes_77 : decode cX8_writes 77 = .ok (.sipush 287, 3) := dk_17 1 31 (dk_at dksX8_writes_3 9 rfl rfl)
theorem dX8_writes_80 : decode cX8_writes 80 = .ok (.iload_n 3, 1) := dk_29 (dk_at dksX8_writes_3 12 rfl rfl)
theorem dX8_writes_81 : decode cX8_writes 81 = .ok (.iastore, 1) := dk_79 (dk_at dksX8_writes_3 13 rfl rfl)
theorem dX8_writes_82 : decode cX8_writes 82 = .ok (.aload_n 0, 1) := dk_42 (dk_at dksX8_writes_3 14 rfl rfl)
theorem dX8_writes_83 : decode cX8_writes 83 = .ok (.getfield 7, 3) := dk_180 0 7 (dk_at dksX8_writes_3 15 rfl rfl)
theorem dX8_writes_86 : decode cX8_writes 86 = .ok (.sipush 288, 3) := dk_17 1 32 (dk_at dksX8_writes_3 18 rfl rfl)
theorem dX8_writes_89 : decode cX8_writes 89 = .ok (.iload 4, 2) := dk_21 4 (dk_at dksX8_writes_3 21 rfl rfl)
theorem dX8_writes_91 : decode cX8_writes 91 = .ok (.iastore, 1) := dk_79 (dk_at dksX8_writes_3 23 rfl rfl)
theorem dX8_writes_92 : decode cX8_writes 92 = .ok (.aload_n 0, 1) := dk_42 (dk_at dksX8_writes_4 0 rfl rfl)
theorem dX8_writes_93 : decode cX8_writes 93 = .ok (.getfield 7, 3) := dk_180 0 7 (dk_at dksX8_writes_4 1 rfl rfl)
theorem dX8_writes_96 : decode cX8_writes 96 = .ok (.bipush 8, 2) := dk_16 8 (dk_at dksX8_writes_4 4 rfl rfl)
theorem dX8_writes_98 : decode cX8_writes 98 = .ok (.bipush 60, 2) := dk_16 60 (dk_at dksX8_writes_4 6 rfl rfl)
theorem dX8_writes_100 : decode cX8_writes 100 = .ok (.aload_n 0, 1) := dk_42 (dk_at dksX8_writes_4 8 rfl rfl)
theorem dX8_writes_101 : decode cX8_writes 101 = .ok (.getfield 7, 3) := dk_180 0 7 (dk_at dksX8_writes_4 9 rfl rfl)
theorem dX8_writes_104 : decode cX8_writes 104 = .ok (.bipush 8, 2) := dk_16 8 (dk_at dksX8_writes_4 12 rfl rfl)
theorem dX8_writes_106 : decode cX8_writes 106 = .ok (.iaload, 1) := dk_46 (dk_at dksX8_writes_4 14 rfl rfl)
theorem dX8_writes_107 : decode cX8_writes 107 = .ok (.iconst 1, 1) := dk_4 (dk_at dksX8_writes_4 15 rfl rfl)
theorem dX8_writes_108 : decode cX8_writes 108 = .ok (.iadd, 1) := dk_96 (dk_at dksX8_writes_4 16 rfl rfl)
theorem dX8_writes_109 : decode cX8_writes 109 = .ok (.invokestatic 272, 3) := dk_184 1 16 (dk_at dksX8_writes_4 17 rfl rfl)
theorem dX8_writes_112 : decode cX8_writes 112 = .ok (.iastore, 1) := dk_79 (dk_at dksX8_writes_4 20 rfl rfl)
theorem dX8_writes_113 : decode cX8_writes 113 = .ok (.return_, 1) := dk_177 (dk_at dksX8_writes_4 21 rfl rfl)
abbrev cX8_lesser : ByteArray := prog_21_method_4_code
def yX8_lesser : MethodName := ⟨RX8, "lesser", "(II)I"⟩
def dkwX8_lesser_0 : List UInt8 := [26, 27, 162, 0, 7, 26, 167, 0, 4, 27, 172]
abbrev dktX8_lesser_0 : List UInt8 := dkwX8_lesser_0 ++ []
theorem dksX8_lesser_0 : cX8_lesser.data.toList.drop 0 = dktX8_lesser_0 := by decide +kernel
theorem dX8_lesser_0 : decode cX8_lesser 0 = .ok (.iload_n 0, 1) := dk_26 (dk_at dksX8_lesser_0 0 rfl rfl)
theorem dX8_lesser_1 : decode cX8_lesser 1 = .ok (.iload_n 1, 1) := dk_27 (dk_at dksX8_lesser_0 1 rfl rfl)
theorem dX8_lesser_2 : decode cX8_lesser 2 = .ok (.if_icmp .ge 7, 3) := dk_162 0 7 (dk_at dksX8_lesser_0 2 rfl rfl)
theorem dX8_lesser_5 : decode cX8_lesser 5 = .ok (.iload_n 0, 1) := dk_26 (dk_at dksX8_lesser_0 5 rfl rfl)
theorem dX8_lesser_6 : decode cX8_lesser 6 = .ok (.goto 4, 3) := dk_167 0 4 (dk_at dksX8_lesser_0 6 rfl rfl)
theorem dX8_lesser_9 : decode cX8_lesser 9 = .ok (.iload_n 1, 1) := dk_27 (dk_at dksX8_lesser_0 9 rfl rfl)
theorem dX8_lesser_10 : decode cX8_lesser 10 = .ok (.ireturn, 1) := dk_172 (dk_at dksX8_lesser_0 10 rfl rfl)
abbrev cX8_fetch : ByteArray := prog_21_method_66_code
def yX8_fetch : MethodName := ⟨RX8, "fetch", "(I)I"⟩
def dkwX8_fetch_2 : List UInt8 := [3, 172, 42, 182, 1, 23, 42, 27, 182, 1, 29, 172]
abbrev dktX8_fetch_2 : List UInt8 := dkwX8_fetch_2 ++ []
def dkwX8_fetch_1 : List UInt8 := [27, 5, 182, 0, 57, 2, 159, 0, 7, 5, 167, 0, 4, 3, 181, 0, 50, 42, 180, 0, 50, 158, 0, 5]
abbrev dktX8_fetch_1 : List UInt8 := dkwX8_fetch_1 ++ dktX8_fetch_2
def dkwX8_fetch_0 : List UInt8 := [42, 42, 27, 182, 0, 250, 154, 0, 7, 4, 167, 0, 28, 42, 27, 6, 182, 0, 57, 2, 159, 0, 13, 42]
abbrev dktX8_fetch_0 : List UInt8 := dkwX8_fetch_0 ++ dktX8_fetch_1
theorem dksX8_fetch_0 : cX8_fetch.data.toList.drop 0 = dktX8_fetch_0 := by decide +kernel
theorem dksX8_fetch_1 : cX8_fetch.data.toList.drop 24 = dktX8_fetch_1 := dk_seg dksX8_fetch_0 24 rfl rfl
theorem dksX8_fetch_2 : cX8_fetch.data.toList.drop 48 = dktX8_fetch_2 := dk_seg dksX8_fetch_1 24 rfl rfl
theorem dX8_fetch_0 : decode cX8_fetch 0 = .ok (.aload_n 0, 1) := dk_42 (dk_at dksX8_fetch_0 0 rfl rfl)
theorem dX8_fetch_1 : decode cX8_fetch 1 = .ok (.aload_n 0, 1) := dk_42 (dk_at dksX8_fetch_0 1 rfl rfl)
theorem dX8_fetch_2 : decode cX8_fetch 2 = .ok (.iload_n 1, 1) := dk_27 (dk_at dksX8_fetch_0 2 rfl rfl)
theorem dX8_fetch_3 : decode cX8_fetch 3 = .ok (.invokevirtual 250, 3) := dk_182 0 250 (dk_at dksX8_fetch_0 3 rfl rfl)
theorem dX8_fetch_6 : decode cX8_fetch 6 = .ok (.ifCond .ne 7, 3) := dk_154 0 7 (dk_at dksX8_fetch_0 6 rfl rfl)
theorem dX8_fetch_9 : decode cX8_fetch 9 = .ok (.iconst 1, 1) := dk_4 (dk_at dksX8_fetch_0 9 rfl rfl)
theorem dX8_fetch_10 : decode cX8_fetch 10 = .ok (.goto 28, 3) := dk_167 0 28 (dk_at dksX8_fetch_0 10 rfl rfl)
theorem dX8_fetch_13 : decode cX8_fetch 13 = .ok (.aload_n 0, 1) := dk_42 (dk_at dksX8_fetch_0 13 rfl rfl)
theorem dX8_fetch_14 : decode cX8_fetch 14 = .ok (.iload_n 1, 1) := dk_27 (dk_at dksX8_fetch_0 14 rfl rfl)
theorem dX8_fetch_15 : decode cX8_fetch 15 = .ok (.iconst 3, 1) := dk_6 (dk_at dksX8_fetch_0 15 rfl rfl)
theorem dX8_fetch_16 : decode cX8_fetch 16 = .ok (.invokevirtual 57, 3) := dk_182 0 57 (dk_at dksX8_fetch_0 16 rfl rfl)
theorem dX8_fetch_19 : decode cX8_fetch 19 = .ok (.iconst (-1), 1) := dk_2 (dk_at dksX8_fetch_0 19 rfl rfl)
theorem dX8_fetch_20 : decode cX8_fetch 20 = .ok (.if_icmp .eq 13, 3) := dk_159 0 13 (dk_at dksX8_fetch_0 20 rfl rfl)
theorem dX8_fetch_23 : decode cX8_fetch 23 = .ok (.aload_n 0, 1) := dk_42 (dk_at dksX8_fetch_0 23 rfl rfl)
theorem dX8_fetch_24 : decode cX8_fetch 24 = .ok (.iload_n 1, 1) := dk_27 (dk_at dksX8_fetch_1 0 rfl rfl)
theorem dX8_fetch_25 : decode cX8_fetch 25 = .ok (.iconst 2, 1) := dk_5 (dk_at dksX8_fetch_1 1 rfl rfl)
theorem dX8_fetch_26 : decode cX8_fetch 26 = .ok (.invokevirtual 57, 3) := dk_182 0 57 (dk_at dksX8_fetch_1 2 rfl rfl)
theorem dX8_fetch_29 : decode cX8_fetch 29 = .ok (.iconst (-1), 1) := dk_2 (dk_at dksX8_fetch_1 5 rfl rfl)
theorem dX8_fetch_30 : decode cX8_fetch 30 = .ok (.if_icmp .eq 7, 3) := dk_159 0 7 (dk_at dksX8_fetch_1 6 rfl rfl)
theorem dX8_fetch_33 : decode cX8_fetch 33 = .ok (.iconst 2, 1) := dk_5 (dk_at dksX8_fetch_1 9 rfl rfl)
theorem dX8_fetch_34 : decode cX8_fetch 34 = .ok (.goto 4, 3) := dk_167 0 4 (dk_at dksX8_fetch_1 10 rfl rfl)
theorem dX8_fetch_37 : decode cX8_fetch 37 = .ok (.iconst 0, 1) := dk_3 (dk_at dksX8_fetch_1 13 rfl rfl)
theorem dX8_fetch_38 : decode cX8_fetch 38 = .ok (.putfield 50, 3) := dk_181 0 50 (dk_at dksX8_fetch_1 14 rfl rfl)
theorem dX8_fetch_41 : decode cX8_fetch 41 = .ok (.aload_n 0, 1) := dk_42 (dk_at dksX8_fetch_1 17 rfl rfl)
theorem dX8_fetch_42 : decode cX8_fetch 42 = .ok (.getfield 50, 3) := dk_180 0 50 (dk_at dksX8_fetch_1 18 rfl rfl)
theorem dX8_fetch_45 : decode cX8_fetch 45 = .ok (.ifCond .le 5, 3) := dk_158 0 5 (dk_at dksX8_fetch_1 21 rfl rfl)
theorem dX8_fetch_48 : decode cX8_fetch 48 = .ok (.iconst 0, 1) := dk_3 (dk_at dksX8_fetch_2 0 rfl rfl)
theorem dX8_fetch_49 : decode cX8_fetch 49 = .ok (.ireturn, 1) := dk_172 (dk_at dksX8_fetch_2 1 rfl rfl)
theorem dX8_fetch_50 : decode cX8_fetch 50 = .ok (.aload_n 0, 1) := dk_42 (dk_at dksX8_fetch_2 2 rfl rfl)
theorem dX8_fetch_51 : decode cX8_fetch 51 = .ok (.invokevirtual 279, 3) := dk_182 1 23 (dk_at dksX8_fetch_2 3 rfl rfl)
theorem dX8_fetch_54 : decode cX8_fetch 54 = .ok (.aload_n 0, 1) := dk_42 (dk_at dksX8_fetch_2 6 rfl rfl)
theorem dX8_fetch_55 : decode cX8_fetch 55 = .ok (.iload_n 1, 1) := dk_27 (dk_at dksX8_fetch_2 7 rfl rfl)
theorem dX8_fetch_56 : decode cX8_fetch 56 = .ok (.invokevirtual 285, 3) := dk_182 1 29 (dk_at dksX8_fetch_2 8 rfl rfl)
theorem dX8_fetch_59 : decode cX8_fetch 59 = .ok (.ireturn, 1) := dk_172 (dk_at dksX8_fetch_2 11 rfl rfl)
abbrev cX8_gets : ByteArray := prog_21_method_63_code
def yX8_gets : MethodName := ⟨RX8, "gets", "(I)I"⟩
def dkwX8_gets_2 : List UInt8 := [29, 4, 182, 1, 19, 29, 172]
abbrev dktX8_gets_2 : List UInt8 := dkwX8_gets_2 ++ []
def dkwX8_gets_1 : List UInt8 := [17, 1, 16, 28, 96, 2, 79, 42, 27, 5, 29, 182, 0, 100, 42, 27, 6, 2, 182, 0, 100, 42, 27, 28]
abbrev dktX8_gets_1 : List UInt8 := dkwX8_gets_1 ++ dktX8_gets_2
def dkwX8_gets_0 : List UInt8 := [42, 27, 6, 182, 0, 57, 61, 42, 180, 0, 7, 17, 1, 16, 28, 96, 46, 62, 42, 180, 0, 7]
abbrev dktX8_gets_0 : List UInt8 := dkwX8_gets_0 ++ dktX8_gets_1
theorem dksX8_gets_0 : cX8_gets.data.toList.drop 0 = dktX8_gets_0 := by decide +kernel
theorem dksX8_gets_1 : cX8_gets.data.toList.drop 22 = dktX8_gets_1 := dk_seg dksX8_gets_0 22 rfl rfl
theorem dksX8_gets_2 : cX8_gets.data.toList.drop 46 = dktX8_gets_2 := dk_seg dksX8_gets_1 24 rfl rfl
theorem dX8_gets_0 : decode cX8_gets 0 = .ok (.aload_n 0, 1) := dk_42 (dk_at dksX8_gets_0 0 rfl rfl)
theorem dX8_gets_1 : decode cX8_gets 1 = .ok (.iload_n 1, 1) := dk_27 (dk_at dksX8_gets_0 1 rfl rfl)
theorem dX8_gets_2 : decode cX8_gets 2 = .ok (.iconst 3, 1) := dk_6 (dk_at dksX8_gets_0 2 rfl rfl)
theorem dX8_gets_3 : decode cX8_gets 3 = .ok (.invokevirtual 57, 3) := dk_182 0 57 (dk_at dksX8_gets_0 3 rfl rfl)
theorem dX8_gets_6 : decode cX8_gets 6 = .ok (.istore_n 2, 1) := dk_61 (dk_at dksX8_gets_0 6 rfl rfl)
theorem dX8_gets_7 : decode cX8_gets 7 = .ok (.aload_n 0, 1) := dk_42 (dk_at dksX8_gets_0 7 rfl rfl)
theorem dX8_gets_8 : decode cX8_gets 8 = .ok (.getfield 7, 3) := dk_180 0 7 (dk_at dksX8_gets_0 8 rfl rfl)
theorem dX8_gets_11 : decode cX8_gets 11 = .ok (.sipush 272, 3) := dk_17 1 16 (dk_at dksX8_gets_0 11 rfl rfl)
theorem dX8_gets_14 : decode cX8_gets 14 = .ok (.iload_n 2, 1) := dk_28 (dk_at dksX8_gets_0 14 rfl rfl)
theorem dX8_gets_15 : decode cX8_gets 15 = .ok (.iadd, 1) := dk_96 (dk_at dksX8_gets_0 15 rfl rfl)
theorem dX8_gets_16 : decode cX8_gets 16 = .ok (.iaload, 1) := dk_46 (dk_at dksX8_gets_0 16 rfl rfl)
theorem dX8_gets_17 : decode cX8_gets 17 = .ok (.istore_n 3, 1) := dk_62 (dk_at dksX8_gets_0 17 rfl rfl)
theorem dX8_gets_18 : decode cX8_gets 18 = .ok (.aload_n 0, 1) := dk_42 (dk_at dksX8_gets_0 18 rfl rfl)
theorem dX8_gets_19 : decode cX8_gets 19 = .ok (.getfield 7, 3) := dk_180 0 7 (dk_at dksX8_gets_0 19 rfl rfl)
theorem dX8_gets_22 : decode cX8_gets 22 = .ok (.sipush 272, 3) := dk_17 1 16 (dk_at dksX8_gets_1 0 rfl rfl)
theorem dX8_gets_25 : decode cX8_gets 25 = .ok (.iload_n 2, 1) := dk_28 (dk_at dksX8_gets_1 3 rfl rfl)
theorem dX8_gets_26 : decode cX8_gets 26 = .ok (.iadd, 1) := dk_96 (dk_at dksX8_gets_1 4 rfl rfl)
theorem dX8_gets_27 : decode cX8_gets 27 = .ok (.iconst (-1), 1) := dk_2 (dk_at dksX8_gets_1 5 rfl rfl)
theorem dX8_gets_28 : decode cX8_gets 28 = .ok (.iastore, 1) := dk_79 (dk_at dksX8_gets_1 6 rfl rfl)
theorem dX8_gets_29 : decode cX8_gets 29 = .ok (.aload_n 0, 1) := dk_42 (dk_at dksX8_gets_1 7 rfl rfl)
theorem dX8_gets_30 : decode cX8_gets 30 = .ok (.iload_n 1, 1) := dk_27 (dk_at dksX8_gets_1 8 rfl rfl)
theorem dX8_gets_31 : decode cX8_gets 31 = .ok (.iconst 2, 1) := dk_5 (dk_at dksX8_gets_1 9 rfl rfl)
theorem dX8_gets_32 : decode cX8_gets 32 = .ok (.iload_n 3, 1) := dk_29 (dk_at dksX8_gets_1 10 rfl rfl)
theorem dX8_gets_33 : decode cX8_gets 33 = .ok (.invokevirtual 100, 3) := dk_182 0 100 (dk_at dksX8_gets_1 11 rfl rfl)
theorem dX8_gets_36 : decode cX8_gets 36 = .ok (.aload_n 0, 1) := dk_42 (dk_at dksX8_gets_1 14 rfl rfl)
theorem dX8_gets_37 : decode cX8_gets 37 = .ok (.iload_n 1, 1) := dk_27 (dk_at dksX8_gets_1 15 rfl rfl)
theorem dX8_gets_38 : decode cX8_gets 38 = .ok (.iconst 3, 1) := dk_6 (dk_at dksX8_gets_1 16 rfl rfl)
theorem dX8_gets_39 : decode cX8_gets 39 = .ok (.iconst (-1), 1) := dk_2 (dk_at dksX8_gets_1 17 rfl rfl)
theorem dX8_gets_40 : decode cX8_gets 40 = .ok (.invokevirtual 100, 3) := dk_182 0 100 (dk_at dksX8_gets_1 18 rfl rfl)
theorem dX8_gets_43 : decode cX8_gets 43 = .ok (.aload_n 0, 1) := dk_42 (dk_at dksX8_gets_1 21 rfl rfl)
theorem dX8_gets_44 : decode cX8_gets 44 = .ok (.iload_n 1, 1) := dk_27 (dk_at dksX8_gets_1 22 rfl rfl)
theorem dX8_gets_45 : decode cX8_gets 45 = .ok (.iload_n 2, 1) := dk_28 (dk_at dksX8_gets_1 23 rfl rfl)
theorem dX8_gets_46 : decode cX8_gets 46 = .ok (.iload_n 3, 1) := dk_29 (dk_at dksX8_gets_2 0 rfl rfl)
theorem dX8_gets_47 : decode cX8_gets 47 = .ok (.iconst 1, 1) := dk_4 (dk_at dksX8_gets_2 1 rfl rfl)
theorem dX8_gets_48 : decode cX8_gets 48 = .ok (.invokevirtual 275, 3) := dk_182 1 19 (dk_at dksX8_gets_2 2 rfl rfl)
theorem dX8_gets_51 : decode cX8_gets 51 = .ok (.iload_n 3, 1) := dk_29 (dk_at dksX8_gets_2 5 rfl rfl)
theorem dX8_gets_52 : decode cX8_gets 52 = .ok (.ireturn, 1) := dk_172 (dk_at dksX8_gets_2 6 rfl rfl)
abbrev cX8_mix : ByteArray := prog_21_method_67_code
def yX8_mix : MethodName := ⟨RX8, "mix", "(II)I"⟩
def dkwX8_mix_3 : List UInt8 := [6, 182, 0, 57, 172]
abbrev dktX8_mix_3 : List UInt8 := dkwX8_mix_3 ++ []
def dkwX8_mix_2 : List UInt8 := [181, 0, 50, 42, 180, 0, 50, 158, 0, 5, 3, 172, 42, 182, 1, 23, 42, 27, 28, 182, 1, 31, 42, 27]
abbrev dktX8_mix_2 : List UInt8 := dkwX8_mix_2 ++ dktX8_mix_3
def dkwX8_mix_1 : List UInt8 := [182, 0, 57, 2, 159, 0, 13, 42, 28, 6, 182, 0, 57, 2, 160, 0, 7, 6, 167, 0, 4, 3]
abbrev dktX8_mix_1 : List UInt8 := dkwX8_mix_1 ++ dktX8_mix_2
def dkwX8_mix_0 : List UInt8 := [42, 42, 27, 28, 182, 1, 9, 158, 0, 12, 42, 27, 28, 182, 1, 9, 167, 0, 28, 42, 27, 6]
abbrev dktX8_mix_0 : List UInt8 := dkwX8_mix_0 ++ dktX8_mix_1
theorem dksX8_mix_0 : cX8_mix.data.toList.drop 0 = dktX8_mix_0 := by decide +kernel
theorem dksX8_mix_1 : cX8_mix.data.toList.drop 22 = dktX8_mix_1 := dk_seg dksX8_mix_0 22 rfl rfl
theorem dksX8_mix_2 : cX8_mix.data.toList.drop 44 = dktX8_mix_2 := dk_seg dksX8_mix_1 22 rfl rfl
theorem dksX8_mix_3 : cX8_mix.data.toList.drop 68 = dktX8_mix_3 := dk_seg dksX8_mix_2 24 rfl rfl
theorem dX8_mix_0 : decode cX8_mix 0 = .ok (.aload_n 0, 1) := dk_42 (dk_at dksX8_mix_0 0 rfl rfl)
theorem dX8_mix_1 : decode cX8_mix 1 = .ok (.aload_n 0, 1) := dk_42 (dk_at dksX8_mix_0 1 rfl rfl)
theorem dX8_mix_2 : decode cX8_mix 2 = .ok (.iload_n 1, 1) := dk_27 (dk_at dksX8_mix_0 2 rfl rfl)
theorem dX8_mix_3 : decode cX8_mix 3 = .ok (.iload_n 2, 1) := dk_28 (dk_at dksX8_mix_0 3 rfl rfl)
theorem dX8_mix_4 : decode cX8_mix 4 = .ok (.invokevirtual 265, 3) := dk_182 1 9 (dk_at dksX8_mix_0 4 rfl rfl)
theorem dX8_mix_7 : decode cX8_mix 7 = .ok (.ifCond .le 12, 3) := dk_158 0 12 (dk_at dksX8_mix_0 7 rfl rfl)
theorem dX8_mix_10 : decode cX8_mix 10 = .ok (.aload_n 0, 1) := dk_42 (dk_at dksX8_mix_0 10 rfl rfl)
theorem dX8_mix_11 : decode cX8_mix 11 = .ok (.iload_n 1, 1) := dk_27 (dk_at dksX8_mix_0 11 rfl rfl)
theorem dX8_mix_12 : decode cX8_mix 12 = .ok (.iload_n 2, 1) := dk_28 (dk_at dksX8_mix_0 12 rfl rfl)
theorem dX8_mix_13 : decode cX8_mix 13 = .ok (.invokevirtual 265, 3) := dk_182 1 9 (dk_at dksX8_mix_0 13 rfl rfl)
theorem dX8_mix_16 : decode cX8_mix 16 = .ok (.goto 28, 3) := dk_167 0 28 (dk_at dksX8_mix_0 16 rfl rfl)
theorem dX8_mix_19 : decode cX8_mix 19 = .ok (.aload_n 0, 1) := dk_42 (dk_at dksX8_mix_0 19 rfl rfl)
theorem dX8_mix_20 : decode cX8_mix 20 = .ok (.iload_n 1, 1) := dk_27 (dk_at dksX8_mix_0 20 rfl rfl)
theorem dX8_mix_21 : decode cX8_mix 21 = .ok (.iconst 3, 1) := dk_6 (dk_at dksX8_mix_0 21 rfl rfl)
theorem dX8_mix_22 : decode cX8_mix 22 = .ok (.invokevirtual 57, 3) := dk_182 0 57 (dk_at dksX8_mix_1 0 rfl rfl)
theorem dX8_mix_25 : decode cX8_mix 25 = .ok (.iconst (-1), 1) := dk_2 (dk_at dksX8_mix_1 3 rfl rfl)
theorem dX8_mix_26 : decode cX8_mix 26 = .ok (.if_icmp .eq 13, 3) := dk_159 0 13 (dk_at dksX8_mix_1 4 rfl rfl)
theorem dX8_mix_29 : decode cX8_mix 29 = .ok (.aload_n 0, 1) := dk_42 (dk_at dksX8_mix_1 7 rfl rfl)
theorem dX8_mix_30 : decode cX8_mix 30 = .ok (.iload_n 2, 1) := dk_28 (dk_at dksX8_mix_1 8 rfl rfl)
theorem dX8_mix_31 : decode cX8_mix 31 = .ok (.iconst 3, 1) := dk_6 (dk_at dksX8_mix_1 9 rfl rfl)
theorem dX8_mix_32 : decode cX8_mix 32 = .ok (.invokevirtual 57, 3) := dk_182 0 57 (dk_at dksX8_mix_1 10 rfl rfl)
theorem dX8_mix_35 : decode cX8_mix 35 = .ok (.iconst (-1), 1) := dk_2 (dk_at dksX8_mix_1 13 rfl rfl)
theorem dX8_mix_36 : decode cX8_mix 36 = .ok (.if_icmp .ne 7, 3) := dk_160 0 7 (dk_at dksX8_mix_1 14 rfl rfl)
theorem dX8_mix_39 : decode cX8_mix 39 = .ok (.iconst 3, 1) := dk_6 (dk_at dksX8_mix_1 17 rfl rfl)
theorem dX8_mix_40 : decode cX8_mix 40 = .ok (.goto 4, 3) := dk_167 0 4 (dk_at dksX8_mix_1 18 rfl rfl)
theorem dX8_mix_43 : decode cX8_mix 43 = .ok (.iconst 0, 1) := dk_3 (dk_at dksX8_mix_1 21 rfl rfl)
theorem dX8_mix_44 : decode cX8_mix 44 = .ok (.putfield 50, 3) := dk_181 0 50 (dk_at dksX8_mix_2 0 rfl rfl)
theorem dX8_mix_47 : decode cX8_mix 47 = .ok (.aload_n 0, 1) := dk_42 (dk_at dksX8_mix_2 3 rfl rfl)
theorem dX8_mix_48 : decode cX8_mix 48 = .ok (.getfield 50, 3) := dk_180 0 50 (dk_at dksX8_mix_2 4 rfl rfl)
theorem dX8_mix_51 : decode cX8_mix 51 = .ok (.ifCond .le 5, 3) := dk_158 0 5 (dk_at dksX8_mix_2 7 rfl rfl)
theorem dX8_mix_54 : decode cX8_mix 54 = .ok (.iconst 0, 1) := dk_3 (dk_at dksX8_mix_2 10 rfl rfl)
theorem dX8_mix_55 : decode cX8_mix 55 = .ok (.ireturn, 1) := dk_172 (dk_at dksX8_mix_2 11 rfl rfl)
theorem dX8_mix_56 : decode cX8_mix 56 = .ok (.aload_n 0, 1) := dk_42 (dk_at dksX8_mix_2 12 rfl rfl)
theorem dX8_mix_57 : decode cX8_mix 57 = .ok (.invokevirtual 279, 3) := dk_182 1 23 (dk_at dksX8_mix_2 13 rfl rfl)
theorem dX8_mix_60 : decode cX8_mix 60 = .ok (.aload_n 0, 1) := dk_42 (dk_at dksX8_mix_2 16 rfl rfl)
theorem dX8_mix_61 : decode cX8_mix 61 = .ok (.iload_n 1, 1) := dk_27 (dk_at dksX8_mix_2 17 rfl rfl)
theorem dX8_mix_62 : decode cX8_mix 62 = .ok (.iload_n 2, 1) := dk_28 (dk_at dksX8_mix_2 18 rfl rfl)
theorem dX8_mix_63 : decode cX8_mix 63 = .ok (.invokevirtual 287, 3) := dk_182 1 31 (dk_at dksX8_mix_2 19 rfl rfl)
theorem dX8_mix_66 : decode cX8_mix 66 = .ok (.aload_n 0, 1) := dk_42 (dk_at dksX8_mix_2 22 rfl rfl)
theorem dX8_mix_67 : decode cX8_mix 67 = .ok (.iload_n 1, 1) := dk_27 (dk_at dksX8_mix_2 23 rfl rfl)
theorem dX8_mix_68 : decode cX8_mix 68 = .ok (.iconst 3, 1) := dk_6 (dk_at dksX8_mix_3 0 rfl rfl)
theorem dX8_mix_69 : decode cX8_mix 69 = .ok (.invokevirtual 57, 3) := dk_182 0 57 (dk_at dksX8_mix_3 1 rfl rfl)
theorem dX8_mix_72 : decode cX8_mix 72 = .ok (.ireturn, 1) := dk_172 (dk_at dksX8_mix_3 4 rfl rfl)
abbrev cX8_mixes : ByteArray := prog_21_method_64_code
def yX8_mixes : MethodName := ⟨RX8, "mixes", "(II)V"⟩
def dkwX8_mixes_2 : List UInt8 := [182, 0, 57, 2, 6, 182, 1, 19, 42, 21, 5, 42, 21, 5, 6, 182, 0, 57, 2, 6, 182, 1, 19, 177]
abbrev dktX8_mixes_2 : List UInt8 := dkwX8_mixes_2 ++ []
def dkwX8_mixes_1 : List UInt8 := [182, 0, 100, 27, 28, 184, 1, 16, 54, 4, 27, 28, 184, 0, 150, 54, 5, 42, 21, 4, 42, 21, 4, 6]
abbrev dktX8_mixes_1 : List UInt8 := dkwX8_mixes_1 ++ dktX8_mixes_2
def dkwX8_mixes_0 : List UInt8 := [42, 27, 6, 182, 0, 57, 62, 42, 27, 6, 42, 28, 6, 182, 0, 57, 182, 0, 100, 42, 28, 6, 29]
abbrev dktX8_mixes_0 : List UInt8 := dkwX8_mixes_0 ++ dktX8_mixes_1
theorem dksX8_mixes_0 : cX8_mixes.data.toList.drop 0 = dktX8_mixes_0 := by decide +kernel
theorem dksX8_mixes_1 : cX8_mixes.data.toList.drop 23 = dktX8_mixes_1 := dk_seg dksX8_mixes_0 23 rfl rfl
theorem dksX8_mixes_2 : cX8_mixes.data.toList.drop 47 = dktX8_mixes_2 := dk_seg dksX8_mixes_1 24 rfl rfl
theorem dX8_mixes_0 : decode cX8_mixes 0 = .ok (.aload_n 0, 1) := dk_42 (dk_at dksX8_mixes_0 0 rfl rfl)
theorem dX8_mixes_1 : decode cX8_mixes 1 = .ok (.iload_n 1, 1) := dk_27 (dk_at dksX8_mixes_0 1 rfl rfl)
theorem dX8_mixes_2 : decode cX8_mixes 2 = .ok (.iconst 3, 1) := dk_6 (dk_at dksX8_mixes_0 2 rfl rfl)
theorem dX8_mixes_3 : decode cX8_mixes 3 = .ok (.invokevirtual 57, 3) := dk_182 0 57 (dk_at dksX8_mixes_0 3 rfl rfl)
theorem dX8_mixes_6 : decode cX8_mixes 6 = .ok (.istore_n 3, 1) := dk_62 (dk_at dksX8_mixes_0 6 rfl rfl)
theorem dX8_mixes_7 : decode cX8_mixes 7 = .ok (.aload_n 0, 1) := dk_42 (dk_at dksX8_mixes_0 7 rfl rfl)
theorem dX8_mixes_8 : decode cX8_mixes 8 = .ok (.iload_n 1, 1) := dk_27 (dk_at dksX8_mixes_0 8 rfl rfl)
theorem dX8_mixes_9 : decode cX8_mixes 9 = .ok (.iconst 3, 1) := dk_6 (dk_at dksX8_mixes_0 9 rfl rfl)
theorem dX8_mixes_10 : decode cX8_mixes 10 = .ok (.aload_n 0, 1) := dk_42 (dk_at dksX8_mixes_0 10 rfl rfl)
theorem dX8_mixes_11 : decode cX8_mixes 11 = .ok (.iload_n 2, 1) := dk_28 (dk_at dksX8_mixes_0 11 rfl rfl)
theorem dX8_mixes_12 : decode cX8_mixes 12 = .ok (.iconst 3, 1) := dk_6 (dk_at dksX8_mixes_0 12 rfl rfl)
theorem dX8_mixes_13 : decode cX8_mixes 13 = .ok (.invokevirtual 57, 3) := dk_182 0 57 (dk_at dksX8_mixes_0 13 rfl rfl)
theorem dX8_mixes_16 : decode cX8_mixes 16 = .ok (.invokevirtual 100, 3) := dk_182 0 100 (dk_at dksX8_mixes_0 16 rfl rfl)
theorem dX8_mixes_19 : decode cX8_mixes 19 = .ok (.aload_n 0, 1) := dk_42 (dk_at dksX8_mixes_0 19 rfl rfl)
theorem dX8_mixes_20 : decode cX8_mixes 20 = .ok (.iload_n 2, 1) := dk_28 (dk_at dksX8_mixes_0 20 rfl rfl)
theorem dX8_mixes_21 : decode cX8_mixes 21 = .ok (.iconst 3, 1) := dk_6 (dk_at dksX8_mixes_0 21 rfl rfl)
theorem dX8_mixes_22 : decode cX8_mixes 22 = .ok (.iload_n 3, 1) := dk_29 (dk_at dksX8_mixes_0 22 rfl rfl)
theorem dX8_mixes_23 : decode cX8_mixes 23 = .ok (.invokevirtual 100, 3) := dk_182 0 100 (dk_at dksX8_mixes_1 0 rfl rfl)
theorem dX8_mixes_26 : decode cX8_mixes 26 = .ok (.iload_n 1, 1) := dk_27 (dk_at dksX8_mixes_1 3 rfl rfl)
theorem dX8_mixes_27 : decode cX8_mixes 27 = .ok (.iload_n 2, 1) := dk_28 (dk_at dksX8_mixes_1 4 rfl rfl)
theorem dX8_mixes_28 : decode cX8_mixes 28 = .ok (.invokestatic 272, 3) := dk_184 1 16 (dk_at dksX8_mixes_1 5 rfl rfl)
theorem dX8_mixes_31 : decode cX8_mixes 31 = .ok (.istore 4, 2) := dk_54 4 (dk_at dksX8_mixes_1 8 rfl rfl)
theorem dX8_mixes_33 : decode cX8_mixes 33 = .ok (.iload_n 1, 1) := dk_27 (dk_at dksX8_mixes_1 10 rfl rfl)
theorem dX8_mixes_34 : decode cX8_mixes 34 = .ok (.iload_n 2, 1) := dk_28 (dk_at dksX8_mixes_1 11 rfl rfl)
theorem dX8_mixes_35 : decode cX8_mixes 35 = .ok (.invokestatic 150, 3) := dk_184 0 150 (dk_at dksX8_mixes_1 12 rfl rfl)
theorem dX8_mixes_38 : decode cX8_mixes 38 = .ok (.istore 5, 2) := dk_54 5 (dk_at dksX8_mixes_1 15 rfl rfl)
theorem dX8_mixes_40 : decode cX8_mixes 40 = .ok (.aload_n 0, 1) := dk_42 (dk_at dksX8_mixes_1 17 rfl rfl)
theorem dX8_mixes_41 : decode cX8_mixes 41 = .ok (.iload 4, 2) := dk_21 4 (dk_at dksX8_mixes_1 18 rfl rfl)
theorem dX8_mixes_43 : decode cX8_mixes 43 = .ok (.aload_n 0, 1) := dk_42 (dk_at dksX8_mixes_1 20 rfl rfl)
theorem dX8_mixes_44 : decode cX8_mixes 44 = .ok (.iload 4, 2) := dk_21 4 (dk_at dksX8_mixes_1 21 rfl rfl)
theorem dX8_mixes_46 : decode cX8_mixes 46 = .ok (.iconst 3, 1) := dk_6 (dk_at dksX8_mixes_1 23 rfl rfl)
theorem dX8_mixes_47 : decode cX8_mixes 47 = .ok (.invokevirtual 57, 3) := dk_182 0 57 (dk_at dksX8_mixes_2 0 rfl rfl)
theorem dX8_mixes_50 : decode cX8_mixes 50 = .ok (.iconst (-1), 1) := dk_2 (dk_at dksX8_mixes_2 3 rfl rfl)
theorem dX8_mixes_51 : decode cX8_mixes 51 = .ok (.iconst 3, 1) := dk_6 (dk_at dksX8_mixes_2 4 rfl rfl)
theorem dX8_mixes_52 : decode cX8_mixes 52 = .ok (.invokevirtual 275, 3) := dk_182 1 19 (dk_at dksX8_mixes_2 5 rfl rfl)
theorem dX8_mixes_55 : decode cX8_mixes 55 = .ok (.aload_n 0, 1) := dk_42 (dk_at dksX8_mixes_2 8 rfl rfl)
theorem dX8_mixes_56 : decode cX8_mixes 56 = .ok (.iload 5, 2) := dk_21 5 (dk_at dksX8_mixes_2 9 rfl rfl)
theorem dX8_mixes_58 : decode cX8_mixes 58 = .ok (.aload_n 0, 1) := dk_42 (dk_at dksX8_mixes_2 11 rfl rfl)
theorem dX8_mixes_59 : decode cX8_mixes 59 = .ok (.iload 5, 2) := dk_21 5 (dk_at dksX8_mixes_2 12 rfl rfl)
theorem dX8_mixes_61 : decode cX8_mixes 61 = .ok (.iconst 3, 1) := dk_6 (dk_at dksX8_mixes_2 14 rfl rfl)
theorem dX8_mixes_62 : decode cX8_mixes 62 = .ok (.invokevirtual 57, 3) := dk_182 0 57 (dk_at dksX8_mixes_2 15 rfl rfl)
theorem dX8_mixes_65 : decode cX8_mixes 65 = .ok (.iconst (-1), 1) := dk_2 (dk_at dksX8_mixes_2 18 rfl rfl)
theorem dX8_mixes_66 : decode cX8_mixes 66 = .ok (.iconst 3, 1) := dk_6 (dk_at dksX8_mixes_2 19 rfl rfl)
theorem dX8_mixes_67 : decode cX8_mixes 67 = .ok (.invokevirtual 275, 3) := dk_182 1 19 (dk_at dksX8_mixes_2 20 rfl rfl)
theorem dX8_mixes_70 : decode cX8_mixes 70 = .ok (.return_, 1) := dk_177 (dk_at dksX8_mixes_2 23 rfl rfl)
abbrev cX8_steal : ByteArray := prog_21_method_68_code
def yX8_steal : MethodName := ⟨RX8, "steal", "(II)I"⟩
def dkwX8_steal_4 : List UInt8 := [182, 0, 100, 42, 27, 28, 29, 5, 182, 1, 19, 29, 172]
abbrev dktX8_steal_4 : List UInt8 := dkwX8_steal_4 ++ []
def dkwX8_steal_3 : List UInt8 := [17, 1, 16, 28, 96, 46, 62, 42, 180, 0, 7, 17, 1, 16, 28, 96, 2, 79, 42, 27, 5, 29]
abbrev dktX8_steal_3 : List UInt8 := dkwX8_steal_3 ++ dktX8_steal_4
def dkwX8_steal_2 : List UInt8 := [167, 0, 4, 3, 181, 0, 50, 42, 180, 0, 50, 158, 0, 5, 3, 172, 42, 182, 1, 23, 42, 180, 0, 7]
abbrev dktX8_steal_2 : List UInt8 := dkwX8_steal_2 ++ dktX8_steal_3
def dkwX8_steal_1 : List UInt8 := [182, 0, 57, 2, 160, 0, 17, 42, 180, 0, 7, 17, 1, 16, 28, 96, 46, 2, 160, 0, 7, 5]
abbrev dktX8_steal_1 : List UInt8 := dkwX8_steal_1 ++ dktX8_steal_2
def dkwX8_steal_0 : List UInt8 := [42, 42, 27, 182, 0, 250, 153, 0, 11, 42, 28, 182, 1, 6, 154, 0, 7, 4, 167, 0, 32, 42, 27, 5]
abbrev dktX8_steal_0 : List UInt8 := dkwX8_steal_0 ++ dktX8_steal_1
theorem dksX8_steal_0 : cX8_steal.data.toList.drop 0 = dktX8_steal_0 := by decide +kernel
theorem dksX8_steal_1 : cX8_steal.data.toList.drop 24 = dktX8_steal_1 := dk_seg dksX8_steal_0 24 rfl rfl
theorem dksX8_steal_2 : cX8_steal.data.toList.drop 46 = dktX8_steal_2 := dk_seg dksX8_steal_1 22 rfl rfl
theorem dksX8_steal_3 : cX8_steal.data.toList.drop 70 = dktX8_steal_3 := dk_seg dksX8_steal_2 24 rfl rfl
theorem dksX8_steal_4 : cX8_steal.data.toList.drop 92 = dktX8_steal_4 := dk_seg dksX8_steal_3 22 rfl rfl
theorem dX8_steal_0 : decode cX8_steal 0 = .ok (.aload_n 0, 1) := dk_42 (dk_at dksX8_steal_0 0 rfl rfl)
theorem dX8_steal_1 : decode cX8_steal 1 = .ok (.aload_n 0, 1) := dk_42 (dk_at dksX8_steal_0 1 rfl rfl)
theorem dX8_steal_2 : decode cX8_steal 2 = .ok (.iload_n 1, 1) := dk_27 (dk_at dksX8_steal_0 2 rfl rfl)
theorem dX8_steal_3 : decode cX8_steal 3 = .ok (.invokevirtual 250, 3) := dk_182 0 250 (dk_at dksX8_steal_0 3 rfl rfl)
theorem dX8_steal_6 : decode cX8_steal 6 = .ok (.ifCond .eq 11, 3) := dk_153 0 11 (dk_at dksX8_steal_0 6 rfl rfl)
theorem dX8_steal_9 : decode cX8_steal 9 = .ok (.aload_n 0, 1) := dk_42 (dk_at dksX8_steal_0 9 rfl rfl)
theorem dX8_steal_10 : decode cX8_steal 10 = .ok (.iload_n 2, 1) := dk_28 (dk_at dksX8_steal_0 10 rfl rfl)
theorem dX8_steal_11 : decode cX8_steal 11 = .ok (.invokevirtual 262, 3) := dk_182 1 6 (dk_at dksX8_steal_0 11 rfl rfl)
theorem dX8_steal_14 : decode cX8_steal 14 = .ok (.ifCond .ne 7, 3) := dk_154 0 7 (dk_at dksX8_steal_0 14 rfl rfl)
theorem dX8_steal_17 : decode cX8_steal 17 = .ok (.iconst 1, 1) := dk_4 (dk_at dksX8_steal_0 17 rfl rfl)
theorem dX8_steal_18 : decode cX8_steal 18 = .ok (.goto 32, 3) := dk_167 0 32 (dk_at dksX8_steal_0 18 rfl rfl)
theorem dX8_steal_21 : decode cX8_steal 21 = .ok (.aload_n 0, 1) := dk_42 (dk_at dksX8_steal_0 21 rfl rfl)
theorem dX8_steal_22 : decode cX8_steal 22 = .ok (.iload_n 1, 1) := dk_27 (dk_at dksX8_steal_0 22 rfl rfl)
theorem dX8_steal_23 : decode cX8_steal 23 = .ok (.iconst 2, 1) := dk_5 (dk_at dksX8_steal_0 23 rfl rfl)
theorem dX8_steal_24 : decode cX8_steal 24 = .ok (.invokevirtual 57, 3) := dk_182 0 57 (dk_at dksX8_steal_1 0 rfl rfl)
theorem dX8_steal_27 : decode cX8_steal 27 = .ok (.iconst (-1), 1) := dk_2 (dk_at dksX8_steal_1 3 rfl rfl)
theorem dX8_steal_28 : decode cX8_steal 28 = .ok (.if_icmp .ne 17, 3) := dk_160 0 17 (dk_at dksX8_steal_1 4 rfl rfl)
theorem dX8_steal_31 : decode cX8_steal 31 = .ok (.aload_n 0, 1) := dk_42 (dk_at dksX8_steal_1 7 rfl rfl)
theorem dX8_steal_32 : decode cX8_steal 32 = .ok (.getfield 7, 3) := dk_180 0 7 (dk_at dksX8_steal_1 8 rfl rfl)
theorem dX8_steal_35 : decode cX8_steal 35 = .ok (.sipush 272, 3) := dk_17 1 16 (dk_at dksX8_steal_1 11 rfl rfl)
theorem dX8_steal_38 : decode cX8_steal 38 = .ok (.iload_n 2, 1) := dk_28 (dk_at dksX8_steal_1 14 rfl rfl)
theorem dX8_steal_39 : decode cX8_steal 39 = .ok (.iadd, 1) := dk_96 (dk_at dksX8_steal_1 15 rfl rfl)
theorem dX8_steal_40 : decode cX8_steal 40 = .ok (.iaload, 1) := dk_46 (dk_at dksX8_steal_1 16 rfl rfl)
theorem dX8_steal_41 : decode cX8_steal 41 = .ok (.iconst (-1), 1) := dk_2 (dk_at dksX8_steal_1 17 rfl rfl)
theorem dX8_steal_42 : decode cX8_steal 42 = .ok (.if_icmp .ne 7, 3) := dk_160 0 7 (dk_at dksX8_steal_1 18 rfl rfl)
theorem dX8_steal_45 : decode cX8_steal 45 = .ok (.iconst 2, 1) := dk_5 (dk_at dksX8_steal_1 21 rfl rfl)
theorem dX8_steal_46 : decode cX8_steal 46 = .ok (.goto 4, 3) := dk_167 0 4 (dk_at dksX8_steal_2 0 rfl rfl)
theorem dX8_steal_49 : decode cX8_steal 49 = .ok (.iconst 0, 1) := dk_3 (dk_at dksX8_steal_2 3 rfl rfl)
theorem dX8_steal_50 : decode cX8_steal 50 = .ok (.putfield 50, 3) := dk_181 0 50 (dk_at dksX8_steal_2 4 rfl rfl)
theorem dX8_steal_53 : decode cX8_steal 53 = .ok (.aload_n 0, 1) := dk_42 (dk_at dksX8_steal_2 7 rfl rfl)
theorem dX8_steal_54 : decode cX8_steal 54 = .ok (.getfield 50, 3) := dk_180 0 50 (dk_at dksX8_steal_2 8 rfl rfl)
theorem dX8_steal_57 : decode cX8_steal 57 = .ok (.ifCond .le 5, 3) := dk_158 0 5 (dk_at dksX8_steal_2 11 rfl rfl)
theorem dX8_steal_60 : decode cX8_steal 60 = .ok (.iconst 0, 1) := dk_3 (dk_at dksX8_steal_2 14 rfl rfl)
theorem dX8_steal_61 : decode cX8_steal 61 = .ok (.ireturn, 1) := dk_172 (dk_at dksX8_steal_2 15 rfl rfl)
theorem dX8_steal_62 : decode cX8_steal 62 = .ok (.aload_n 0, 1) := dk_42 (dk_at dksX8_steal_2 16 rfl rfl)
theorem dX8_steal_63 : decode cX8_steal 63 = .ok (.invokevirtual 279, 3) := dk_182 1 23 (dk_at dksX8_steal_2 17 rfl rfl)
theorem dX8_steal_66 : decode cX8_steal 66 = .ok (.aload_n 0, 1) := dk_42 (dk_at dksX8_steal_2 20 rfl rfl)
theorem dX8_steal_67 : decode cX8_steal 67 = .ok (.getfield 7, 3) := dk_180 0 7 (dk_at dksX8_steal_2 21 rfl rfl)
theorem dX8_steal_70 : decode cX8_steal 70 = .ok (.sipush 272, 3) := dk_17 1 16 (dk_at dksX8_steal_3 0 rfl rfl)
theorem dX8_steal_73 : decode cX8_steal 73 = .ok (.iload_n 2, 1) := dk_28 (dk_at dksX8_steal_3 3 rfl rfl)
theorem dX8_steal_74 : decode cX8_steal 74 = .ok (.iadd, 1) := dk_96 (dk_at dksX8_steal_3 4 rfl rfl)
theorem dX8_steal_75 : decode cX8_steal 75 = .ok (.iaload, 1) := dk_46 (dk_at dksX8_steal_3 5 rfl rfl)
theorem dX8_steal_76 : decode cX8_steal 76 = .ok (.istore_n 3, 1) := dk_62 (dk_at dksX8_steal_3 6 rfl rfl)
theorem dX8_steal_77 : decode cX8_steal 77 = .ok (.aload_n 0, 1) := dk_42 (dk_at dksX8_steal_3 7 rfl rfl)
theorem dX8_steal_78 : decode cX8_steal 78 = .ok (.getfield 7, 3) := dk_180 0 7 (dk_at dksX8_steal_3 8 rfl rfl)
theorem dX8_steal_81 : decode cX8_steal 81 = .ok (.sipush 272, 3) := dk_17 1 16 (dk_at dksX8_steal_3 11 rfl rfl)
theorem dX8_steal_84 : decode cX8_steal 84 = .ok (.iload_n 2, 1) := dk_28 (dk_at dksX8_steal_3 14 rfl rfl)
theorem dX8_steal_85 : decode cX8_steal 85 = .ok (.iadd, 1) := dk_96 (dk_at dksX8_steal_3 15 rfl rfl)
theorem dX8_steal_86 : decode cX8_steal 86 = .ok (.iconst (-1), 1) := dk_2 (dk_at dksX8_steal_3 16 rfl rfl)
theorem dX8_steal_87 : decode cX8_steal 87 = .ok (.iastore, 1) := dk_79 (dk_at dksX8_steal_3 17 rfl rfl)
theorem dX8_steal_88 : decode cX8_steal 88 = .ok (.aload_n 0, 1) := dk_42 (dk_at dksX8_steal_3 18 rfl rfl)
theorem dX8_steal_89 : decode cX8_steal 89 = .ok (.iload_n 1, 1) := dk_27 (dk_at dksX8_steal_3 19 rfl rfl)
theorem dX8_steal_90 : decode cX8_steal 90 = .ok (.iconst 2, 1) := dk_5 (dk_at dksX8_steal_3 20 rfl rfl)
theorem dX8_steal_91 : decode cX8_steal 91 = .ok (.iload_n 3, 1) := dk_29 (dk_at dksX8_steal_3 21 rfl rfl)
theorem dX8_steal_92 : decode cX8_steal 92 = .ok (.invokevirtual 100, 3) := dk_182 0 100 (dk_at dksX8_steal_4 0 rfl rfl)
theorem dX8_steal_95 : decode cX8_steal 95 = .ok (.aload_n 0, 1) := dk_42 (dk_at dksX8_steal_4 3 rfl rfl)
theorem dX8_steal_96 : decode cX8_steal 96 = .ok (.iload_n 1, 1) := dk_27 (dk_at dksX8_steal_4 4 rfl rfl)
theorem dX8_steal_97 : decode cX8_steal 97 = .ok (.iload_n 2, 1) := dk_28 (dk_at dksX8_steal_4 5 rfl rfl)
theorem dX8_steal_98 : decode cX8_steal 98 = .ok (.iload_n 3, 1) := dk_29 (dk_at dksX8_steal_4 6 rfl rfl)
theorem dX8_steal_99 : decode cX8_steal 99 = .ok (.iconst 2, 1) := dk_5 (dk_at dksX8_steal_4 7 rfl rfl)
theorem dX8_steal_100 : decode cX8_steal 100 = .ok (.invokevirtual 275, 3) := dk_182 1 19 (dk_at dksX8_steal_4 8 rfl rfl)
theorem dX8_steal_103 : decode cX8_steal 103 = .ok (.iload_n 3, 1) := dk_29 (dk_at dksX8_steal_4 11 rfl rfl)
theorem dX8_steal_104 : decode cX8_steal 104 = .ok (.ireturn, 1) := dk_172 (dk_at dksX8_steal_4 12 rfl rfl)
abbrev cX8_change : ByteArray := prog_21_method_69_code
def yX8_change : MethodName := ⟨RX8, "change", "(II)I"⟩
def dkwX8_change_4 : List UInt8 := [172]
abbrev dktX8_change_4 : List UInt8 := dkwX8_change_4 ++ []
def dkwX8_change_3 : List UInt8 := [27, 5, 42, 28, 5, 182, 0, 57, 182, 0, 100, 42, 28, 5, 29, 182, 0, 100, 42, 27, 5, 182, 0, 57]
abbrev dktX8_change_3 : List UInt8 := dkwX8_change_3 ++ dktX8_change_4
def dkwX8_change_2 : List UInt8 := [181, 0, 50, 42, 180, 0, 50, 158, 0, 5, 3, 172, 42, 182, 1, 23, 42, 27, 5, 182, 0, 57, 62, 42]
abbrev dktX8_change_2 : List UInt8 := dkwX8_change_2 ++ dktX8_change_3
def dkwX8_change_1 : List UInt8 := [182, 0, 57, 2, 159, 0, 13, 42, 28, 5, 182, 0, 57, 2, 160, 0, 7, 6, 167, 0, 4, 3]
abbrev dktX8_change_1 : List UInt8 := dkwX8_change_1 ++ dktX8_change_2
def dkwX8_change_0 : List UInt8 := [42, 42, 27, 28, 182, 1, 9, 158, 0, 12, 42, 27, 28, 182, 1, 9, 167, 0, 28, 42, 27, 5]
abbrev dktX8_change_0 : List UInt8 := dkwX8_change_0 ++ dktX8_change_1
theorem dksX8_change_0 : cX8_change.data.toList.drop 0 = dktX8_change_0 := by decide +kernel
theorem dksX8_change_1 : cX8_change.data.toList.drop 22 = dktX8_change_1 := dk_seg dksX8_change_0 22 rfl rfl
theorem dksX8_change_2 : cX8_change.data.toList.drop 44 = dktX8_change_2 := dk_seg dksX8_change_1 22 rfl rfl
theorem dksX8_change_3 : cX8_change.data.toList.drop 68 = dktX8_change_3 := dk_seg dksX8_change_2 24 rfl rfl
theorem dksX8_change_4 : cX8_change.data.toList.drop 92 = dktX8_change_4 := dk_seg dksX8_change_3 24 rfl rfl
theorem dX8_change_0 : decode cX8_change 0 = .ok (.aload_n 0, 1) := dk_42 (dk_at dksX8_change_0 0 rfl rfl)
theorem dX8_change_1 : decode cX8_change 1 = .ok (.aload_n 0, 1) := dk_42 (dk_at dksX8_change_0 1 rfl rfl)
theorem dX8_change_2 : decode cX8_change 2 = .ok (.iload_n 1, 1) := dk_27 (dk_at dksX8_change_0 2 rfl rfl)
theorem dX8_change_3 : decode cX8_change 3 = .ok (.iload_n 2, 1) := dk_28 (dk_at dksX8_change_0 3 rfl rfl)
theorem dX8_change_4 : decode cX8_change 4 = .ok (.invokevirtual 265, 3) := dk_182 1 9 (dk_at dksX8_change_0 4 rfl rfl)
theorem dX8_change_7 : decode cX8_change 7 = .ok (.ifCond .le 12, 3) := dk_158 0 12 (dk_at dksX8_change_0 7 rfl rfl)
theorem dX8_change_10 : decode cX8_change 10 = .ok (.aload_n 0, 1) := dk_42 (dk_at dksX8_change_0 10 rfl rfl)
theorem dX8_change_11 : decode cX8_change 11 = .ok (.iload_n 1, 1) := dk_27 (dk_at dksX8_change_0 11 rfl rfl)
theorem dX8_change_12 : decode cX8_change 12 = .ok (.iload_n 2, 1) := dk_28 (dk_at dksX8_change_0 12 rfl rfl)
theorem dX8_change_13 : decode cX8_change 13 = .ok (.invokevirtual 265, 3) := dk_182 1 9 (dk_at dksX8_change_0 13 rfl rfl)
theorem dX8_change_16 : decode cX8_change 16 = .ok (.goto 28, 3) := dk_167 0 28 (dk_at dksX8_change_0 16 rfl rfl)
theorem dX8_change_19 : decode cX8_change 19 = .ok (.aload_n 0, 1) := dk_42 (dk_at dksX8_change_0 19 rfl rfl)
theorem dX8_change_20 : decode cX8_change 20 = .ok (.iload_n 1, 1) := dk_27 (dk_at dksX8_change_0 20 rfl rfl)
theorem dX8_change_21 : decode cX8_change 21 = .ok (.iconst 2, 1) := dk_5 (dk_at dksX8_change_0 21 rfl rfl)
theorem dX8_change_22 : decode cX8_change 22 = .ok (.invokevirtual 57, 3) := dk_182 0 57 (dk_at dksX8_change_1 0 rfl rfl)
theorem dX8_change_25 : decode cX8_change 25 = .ok (.iconst (-1), 1) := dk_2 (dk_at dksX8_change_1 3 rfl rfl)
theorem dX8_change_26 : decode cX8_change 26 = .ok (.if_icmp .eq 13, 3) := dk_159 0 13 (dk_at dksX8_change_1 4 rfl rfl)
theorem dX8_change_29 : decode cX8_change 29 = .ok (.aload_n 0, 1) := dk_42 (dk_at dksX8_change_1 7 rfl rfl)
theorem dX8_change_30 : decode cX8_change 30 = .ok (.iload_n 2, 1) := dk_28 (dk_at dksX8_change_1 8 rfl rfl)
theorem dX8_change_31 : decode cX8_change 31 = .ok (.iconst 2, 1) := dk_5 (dk_at dksX8_change_1 9 rfl rfl)
theorem dX8_change_32 : decode cX8_change 32 = .ok (.invokevirtual 57, 3) := dk_182 0 57 (dk_at dksX8_change_1 10 rfl rfl)
theorem dX8_change_35 : decode cX8_change 35 = .ok (.iconst (-1), 1) := dk_2 (dk_at dksX8_change_1 13 rfl rfl)
theorem dX8_change_36 : decode cX8_change 36 = .ok (.if_icmp .ne 7, 3) := dk_160 0 7 (dk_at dksX8_change_1 14 rfl rfl)
theorem dX8_change_39 : decode cX8_change 39 = .ok (.iconst 3, 1) := dk_6 (dk_at dksX8_change_1 17 rfl rfl)
theorem dX8_change_40 : decode cX8_change 40 = .ok (.goto 4, 3) := dk_167 0 4 (dk_at dksX8_change_1 18 rfl rfl)
theorem dX8_change_43 : decode cX8_change 43 = .ok (.iconst 0, 1) := dk_3 (dk_at dksX8_change_1 21 rfl rfl)
theorem dX8_change_44 : decode cX8_change 44 = .ok (.putfield 50, 3) := dk_181 0 50 (dk_at dksX8_change_2 0 rfl rfl)
theorem dX8_change_47 : decode cX8_change 47 = .ok (.aload_n 0, 1) := dk_42 (dk_at dksX8_change_2 3 rfl rfl)
theorem dX8_change_48 : decode cX8_change 48 = .ok (.getfield 50, 3) := dk_180 0 50 (dk_at dksX8_change_2 4 rfl rfl)
theorem dX8_change_51 : decode cX8_change 51 = .ok (.ifCond .le 5, 3) := dk_158 0 5 (dk_at dksX8_change_2 7 rfl rfl)
theorem dX8_change_54 : decode cX8_change 54 = .ok (.iconst 0, 1) := dk_3 (dk_at dksX8_change_2 10 rfl rfl)
theorem dX8_change_55 : decode cX8_change 55 = .ok (.ireturn, 1) := dk_172 (dk_at dksX8_change_2 11 rfl rfl)
theorem dX8_change_56 : decode cX8_change 56 = .ok (.aload_n 0, 1) := dk_42 (dk_at dksX8_change_2 12 rfl rfl)
theorem dX8_change_57 : decode cX8_change 57 = .ok (.invokevirtual 279, 3) := dk_182 1 23 (dk_at dksX8_change_2 13 rfl rfl)
theorem dX8_change_60 : decode cX8_change 60 = .ok (.aload_n 0, 1) := dk_42 (dk_at dksX8_change_2 16 rfl rfl)
theorem dX8_change_61 : decode cX8_change 61 = .ok (.iload_n 1, 1) := dk_27 (dk_at dksX8_change_2 17 rfl rfl)
theorem dX8_change_62 : decode cX8_change 62 = .ok (.iconst 2, 1) := dk_5 (dk_at dksX8_change_2 18 rfl rfl)
theorem dX8_change_63 : decode cX8_change 63 = .ok (.invokevirtual 57, 3) := dk_182 0 57 (dk_at dksX8_change_2 19 rfl rfl)
theorem dX8_change_66 : decode cX8_change 66 = .ok (.istore_n 3, 1) := dk_62 (dk_at dksX8_change_2 22 rfl rfl)
theorem dX8_change_67 : decode cX8_change 67 = .ok (.aload_n 0, 1) := dk_42 (dk_at dksX8_change_2 23 rfl rfl)
theorem dX8_change_68 : decode cX8_change 68 = .ok (.iload_n 1, 1) := dk_27 (dk_at dksX8_change_3 0 rfl rfl)
theorem dX8_change_69 : decode cX8_change 69 = .ok (.iconst 2, 1) := dk_5 (dk_at dksX8_change_3 1 rfl rfl)
theorem dX8_change_70 : decode cX8_change 70 = .ok (.aload_n 0, 1) := dk_42 (dk_at dksX8_change_3 2 rfl rfl)
theorem dX8_change_71 : decode cX8_change 71 = .ok (.iload_n 2, 1) := dk_28 (dk_at dksX8_change_3 3 rfl rfl)
theorem dX8_change_72 : decode cX8_change 72 = .ok (.iconst 2, 1) := dk_5 (dk_at dksX8_change_3 4 rfl rfl)
theorem dX8_change_73 : decode cX8_change 73 = .ok (.invokevirtual 57, 3) := dk_182 0 57 (dk_at dksX8_change_3 5 rfl rfl)
theorem dX8_change_76 : decode cX8_change 76 = .ok (.invokevirtual 100, 3) := dk_182 0 100 (dk_at dksX8_change_3 8 rfl rfl)
theorem dX8_change_79 : decode cX8_change 79 = .ok (.aload_n 0, 1) := dk_42 (dk_at dksX8_change_3 11 rfl rfl)
theorem dX8_change_80 : decode cX8_change 80 = .ok (.iload_n 2, 1) := dk_28 (dk_at dksX8_change_3 12 rfl rfl)
theorem dX8_change_81 : decode cX8_change 81 = .ok (.iconst 2, 1) := dk_5 (dk_at dksX8_change_3 13 rfl rfl)
theorem dX8_change_82 : decode cX8_change 82 = .ok (.iload_n 3, 1) := dk_29 (dk_at dksX8_change_3 14 rfl rfl)
theorem dX8_change_83 : decode cX8_change 83 = .ok (.invokevirtual 100, 3) := dk_182 0 100 (dk_at dksX8_change_3 15 rfl rfl)
theorem dX8_change_86 : decode cX8_change 86 = .ok (.aload_n 0, 1) := dk_42 (dk_at dksX8_change_3 18 rfl rfl)
theorem dX8_change_87 : decode cX8_change 87 = .ok (.iload_n 1, 1) := dk_27 (dk_at dksX8_change_3 19 rfl rfl)
theorem dX8_change_88 : decode cX8_change 88 = .ok (.iconst 2, 1) := dk_5 (dk_at dksX8_change_3 20 rfl rfl)
theorem dX8_change_89 : decode cX8_change 89 = .ok (.invokevirtual 57, 3) := dk_182 0 57 (dk_at dksX8_change_3 21 rfl rfl)
theorem dX8_change_92 : decode cX8_change 92 = .ok (.ireturn, 1) := dk_172 (dk_at dksX8_change_4 0 rfl rfl)
abbrev cX8_shave : ByteArray := prog_21_method_70_code
def yX8_shave : MethodName := ⟨RX8, "shave", "(II)I"⟩
def dkwX8_shave_3 : List UInt8 := [182, 0, 100, 42, 27, 3, 182, 0, 57, 184, 0, 242, 172]
abbrev dktX8_shave_3 : List UInt8 := dkwX8_shave_3 ++ []
def dkwX8_shave_2 : List UInt8 := [158, 0, 5, 3, 172, 42, 182, 1, 23, 42, 27, 3, 42, 27, 3, 182, 0, 57, 4, 28, 120, 2, 130, 126]
abbrev dktX8_shave_2 : List UInt8 := dkwX8_shave_2 ++ dktX8_shave_3
def dkwX8_shave_1 : List UInt8 := [27, 3, 182, 0, 57, 28, 184, 0, 107, 154, 0, 7, 5, 167, 0, 4, 3, 181, 0, 50, 42, 180, 0, 50]
abbrev dktX8_shave_1 : List UInt8 := dkwX8_shave_1 ++ dktX8_shave_2
def dkwX8_shave_0 : List UInt8 := [42, 42, 27, 182, 0, 250, 153, 0, 13, 28, 3, 16, 7, 184, 0, 53, 154, 0, 7, 4, 167, 0, 21, 42]
abbrev dktX8_shave_0 : List UInt8 := dkwX8_shave_0 ++ dktX8_shave_1
theorem dksX8_shave_0 : cX8_shave.data.toList.drop 0 = dktX8_shave_0 := by decide +kernel
theorem dksX8_shave_1 : cX8_shave.data.toList.drop 24 = dktX8_shave_1 := dk_seg dksX8_shave_0 24 rfl rfl
theorem dksX8_shave_2 : cX8_shave.data.toList.drop 48 = dktX8_shave_2 := dk_seg dksX8_shave_1 24 rfl rfl
theorem dksX8_shave_3 : cX8_shave.data.toList.drop 72 = dktX8_shave_3 := dk_seg dksX8_shave_2 24 rfl rfl
theorem dX8_shave_0 : decode cX8_shave 0 = .ok (.aload_n 0, 1) := dk_42 (dk_at dksX8_shave_0 0 rfl rfl)
theorem dX8_shave_1 : decode cX8_shave 1 = .ok (.aload_n 0, 1) := dk_42 (dk_at dksX8_shave_0 1 rfl rfl)
theorem dX8_shave_2 : decode cX8_shave 2 = .ok (.iload_n 1, 1) := dk_27 (dk_at dksX8_shave_0 2 rfl rfl)
theorem dX8_shave_3 : decode cX8_shave 3 = .ok (.invokevirtual 250, 3) := dk_182 0 250 (dk_at dksX8_shave_0 3 rfl rfl)
theorem dX8_shave_6 : decode cX8_shave 6 = .ok (.ifCond .eq 13, 3) := dk_153 0 13 (dk_at dksX8_shave_0 6 rfl rfl)
theorem dX8_shave_9 : decode cX8_shave 9 = .ok (.iload_n 2, 1) := dk_28 (dk_at dksX8_shave_0 9 rfl rfl)
theorem dX8_shave_10 : decode cX8_shave 10 = .ok (.iconst 0, 1) := dk_3 (dk_at dksX8_shave_0 10 rfl rfl)
theorem dX8_shave_11 : decode cX8_shave 11 = .ok (.bipush 7, 2) := dk_16 7 (dk_at dksX8_shave_0 11 rfl rfl)
theorem dX8_shave_13 : decode cX8_shave 13 = .ok (.invokestatic 53, 3) := dk_184 0 53 (dk_at dksX8_shave_0 13 rfl rfl)
theorem dX8_shave_16 : decode cX8_shave 16 = .ok (.ifCond .ne 7, 3) := dk_154 0 7 (dk_at dksX8_shave_0 16 rfl rfl)
theorem dX8_shave_19 : decode cX8_shave 19 = .ok (.iconst 1, 1) := dk_4 (dk_at dksX8_shave_0 19 rfl rfl)
theorem dX8_shave_20 : decode cX8_shave 20 = .ok (.goto 21, 3) := dk_167 0 21 (dk_at dksX8_shave_0 20 rfl rfl)
theorem dX8_shave_23 : decode cX8_shave 23 = .ok (.aload_n 0, 1) := dk_42 (dk_at dksX8_shave_0 23 rfl rfl)
theorem dX8_shave_24 : decode cX8_shave 24 = .ok (.iload_n 1, 1) := dk_27 (dk_at dksX8_shave_1 0 rfl rfl)
theorem dX8_shave_25 : decode cX8_shave 25 = .ok (.iconst 0, 1) := dk_3 (dk_at dksX8_shave_1 1 rfl rfl)
theorem dX8_shave_26 : decode cX8_shave 26 = .ok (.invokevirtual 57, 3) := dk_182 0 57 (dk_at dksX8_shave_1 2 rfl rfl)
theorem dX8_shave_29 : decode cX8_shave 29 = .ok (.iload_n 2, 1) := dk_28 (dk_at dksX8_shave_1 5 rfl rfl)
theorem dX8_shave_30 : decode cX8_shave 30 = .ok (.invokestatic 107, 3) := dk_184 0 107 (dk_at dksX8_shave_1 6 rfl rfl)
theorem dX8_shave_33 : decode cX8_shave 33 = .ok (.ifCond .ne 7, 3) := dk_154 0 7 (dk_at dksX8_shave_1 9 rfl rfl)
theorem dX8_shave_36 : decode cX8_shave 36 = .ok (.iconst 2, 1) := dk_5 (dk_at dksX8_shave_1 12 rfl rfl)
theorem dX8_shave_37 : decode cX8_shave 37 = .ok (.goto 4, 3) := dk_167 0 4 (dk_at dksX8_shave_1 13 rfl rfl)
theorem dX8_shave_40 : decode cX8_shave 40 = .ok (.iconst 0, 1) := dk_3 (dk_at dksX8_shave_1 16 rfl rfl)
theorem dX8_shave_41 : decode cX8_shave 41 = .ok (.putfield 50, 3) := dk_181 0 50 (dk_at dksX8_shave_1 17 rfl rfl)
theorem dX8_shave_44 : decode cX8_shave 44 = .ok (.aload_n 0, 1) := dk_42 (dk_at dksX8_shave_1 20 rfl rfl)
theorem dX8_shave_45 : decode cX8_shave 45 = .ok (.getfield 50, 3) := dk_180 0 50 (dk_at dksX8_shave_1 21 rfl rfl)
theorem dX8_shave_48 : decode cX8_shave 48 = .ok (.ifCond .le 5, 3) := dk_158 0 5 (dk_at dksX8_shave_2 0 rfl rfl)
theorem dX8_shave_51 : decode cX8_shave 51 = .ok (.iconst 0, 1) := dk_3 (dk_at dksX8_shave_2 3 rfl rfl)
theorem dX8_shave_52 : decode cX8_shave 52 = .ok (.ireturn, 1) := dk_172 (dk_at dksX8_shave_2 4 rfl rfl)
theorem dX8_shave_53 : decode cX8_shave 53 = .ok (.aload_n 0, 1) := dk_42 (dk_at dksX8_shave_2 5 rfl rfl)
theorem dX8_shave_54 : decode cX8_shave 54 = .ok (.invokevirtual 279, 3) := dk_182 1 23 (dk_at dksX8_shave_2 6 rfl rfl)
theorem dX8_shave_57 : decode cX8_shave 57 = .ok (.aload_n 0, 1) := dk_42 (dk_at dksX8_shave_2 9 rfl rfl)
theorem dX8_shave_58 : decode cX8_shave 58 = .ok (.iload_n 1, 1) := dk_27 (dk_at dksX8_shave_2 10 rfl rfl)
theorem dX8_shave_59 : decode cX8_shave 59 = .ok (.iconst 0, 1) := dk_3 (dk_at dksX8_shave_2 11 rfl rfl)
theorem dX8_shave_60 : decode cX8_shave 60 = .ok (.aload_n 0, 1) := dk_42 (dk_at dksX8_shave_2 12 rfl rfl)
theorem dX8_shave_61 : decode cX8_shave 61 = .ok (.iload_n 1, 1) := dk_27 (dk_at dksX8_shave_2 13 rfl rfl)
theorem dX8_shave_62 : decode cX8_shave 62 = .ok (.iconst 0, 1) := dk_3 (dk_at dksX8_shave_2 14 rfl rfl)
theorem dX8_shave_63 : decode cX8_shave 63 = .ok (.invokevirtual 57, 3) := dk_182 0 57 (dk_at dksX8_shave_2 15 rfl rfl)
theorem dX8_shave_66 : decode cX8_shave 66 = .ok (.iconst 1, 1) := dk_4 (dk_at dksX8_shave_2 18 rfl rfl)
theorem dX8_shave_67 : decode cX8_shave 67 = .ok (.iload_n 2, 1) := dk_28 (dk_at dksX8_shave_2 19 rfl rfl)
theorem dX8_shave_68 : decode cX8_shave 68 = .ok (.ishl, 1) := dk_120 (dk_at dksX8_shave_2 20 rfl rfl)
theorem dX8_shave_69 : decode cX8_shave 69 = .ok (.iconst (-1), 1) := dk_2 (dk_at dksX8_shave_2 21 rfl rfl)
theorem dX8_shave_70 : decode cX8_shave 70 = .ok (.ixor, 1) := dk_130 (dk_at dksX8_shave_2 22 rfl rfl)
theorem dX8_shave_71 : decode cX8_shave 71 = .ok (.iand, 1) := dk_126 (dk_at dksX8_shave_2 23 rfl rfl)
theorem dX8_shave_72 : decode cX8_shave 72 = .ok (.invokevirtual 100, 3) := dk_182 0 100 (dk_at dksX8_shave_3 0 rfl rfl)
theorem dX8_shave_75 : decode cX8_shave 75 = .ok (.aload_n 0, 1) := dk_42 (dk_at dksX8_shave_3 3 rfl rfl)
theorem dX8_shave_76 : decode cX8_shave 76 = .ok (.iload_n 1, 1) := dk_27 (dk_at dksX8_shave_3 4 rfl rfl)
theorem dX8_shave_77 : decode cX8_shave 77 = .ok (.iconst 0, 1) := dk_3 (dk_at dksX8_shave_3 5 rfl rfl)
theorem dX8_shave_78 : decode cX8_shave 78 = .ok (.invokevirtual 57, 3) := dk_182 0 57 (dk_at dksX8_shave_3 6 rfl rfl)
theorem dX8_shave_81 : decode cX8_shave 81 = .ok (.invokestatic 242, 3) := dk_184 0 242 (dk_at dksX8_shave_3 9 rfl rfl)
theorem dX8_shave_84 : decode cX8_shave 84 = .ok (.ireturn, 1) := dk_172 (dk_at dksX8_shave_3 12 rfl rfl)
abbrev cX8_bits : ByteArray := prog_21_method_7_code
def yX8_bits : MethodName := ⟨RX8, "bits", "(I)I"⟩
def dkwX8_bits_1 : List UInt8 := [27, 172]
abbrev dktX8_bits_1 : List UInt8 := dkwX8_bits_1 ++ []
def dkwX8_bits_0 : List UInt8 := [3, 60, 3, 61, 28, 16, 31, 162, 0, 17, 27, 26, 28, 122, 4, 126, 96, 60, 132, 2, 1, 167, 255, 239]
abbrev dktX8_bits_0 : List UInt8 := dkwX8_bits_0 ++ dktX8_bits_1
theorem dksX8_bits_0 : cX8_bits.data.toList.drop 0 = dktX8_bits_0 := by decide +kernel
theorem dksX8_bits_1 : cX8_bits.data.toList.drop 24 = dktX8_bits_1 := dk_seg dksX8_bits_0 24 rfl rfl
theorem dX8_bits_0 : decode cX8_bits 0 = .ok (.iconst 0, 1) := dk_3 (dk_at dksX8_bits_0 0 rfl rfl)
theorem dX8_bits_1 : decode cX8_bits 1 = .ok (.istore_n 1, 1) := dk_60 (dk_at dksX8_bits_0 1 rfl rfl)
theorem dX8_bits_2 : decode cX8_bits 2 = .ok (.iconst 0, 1) := dk_3 (dk_at dksX8_bits_0 2 rfl rfl)
theorem dX8_bits_3 : decode cX8_bits 3 = .ok (.istore_n 2, 1) := dk_61 (dk_at dksX8_bits_0 3 rfl rfl)
theorem dX8_bits_4 : decode cX8_bits 4 = .ok (.iload_n 2, 1) := dk_28 (dk_at dksX8_bits_0 4 rfl rfl)
theorem dX8_bits_5 : decode cX8_bits 5 = .ok (.bipush 31, 2) := dk_16 31 (dk_at dksX8_bits_0 5 rfl rfl)
theorem dX8_bits_7 : decode cX8_bits 7 = .ok (.if_icmp .ge 17, 3) := dk_162 0 17 (dk_at dksX8_bits_0 7 rfl rfl)
theorem dX8_bits_10 : decode cX8_bits 10 = .ok (.iload_n 1, 1) := dk_27 (dk_at dksX8_bits_0 10 rfl rfl)
theorem dX8_bits_11 : decode cX8_bits 11 = .ok (.iload_n 0, 1) := dk_26 (dk_at dksX8_bits_0 11 rfl rfl)
theorem dX8_bits_12 : decode cX8_bits 12 = .ok (.iload_n 2, 1) := dk_28 (dk_at dksX8_bits_0 12 rfl rfl)
theorem dX8_bits_13 : decode cX8_bits 13 = .ok (.ishr, 1) := dk_122 (dk_at dksX8_bits_0 13 rfl rfl)
theorem dX8_bits_14 : decode cX8_bits 14 = .ok (.iconst 1, 1) := dk_4 (dk_at dksX8_bits_0 14 rfl rfl)
theorem dX8_bits_15 : decode cX8_bits 15 = .ok (.iand, 1) := dk_126 (dk_at dksX8_bits_0 15 rfl rfl)
theorem dX8_bits_16 : decode cX8_bits 16 = .ok (.iadd, 1) := dk_96 (dk_at dksX8_bits_0 16 rfl rfl)
theorem dX8_bits_17 : decode cX8_bits 17 = .ok (.istore_n 1, 1) := dk_60 (dk_at dksX8_bits_0 17 rfl rfl)
theorem dX8_bits_18 : decode cX8_bits 18 = .ok (.iinc 2 1, 3) := dk_132 2 1 (dk_at dksX8_bits_0 18 rfl rfl)
theorem dX8_bits_21 : decode cX8_bits 21 = .ok (.goto (-17), 3) := dk_167 255 239 (dk_at dksX8_bits_0 21 rfl rfl)
theorem dX8_bits_24 : decode cX8_bits 24 = .ok (.iload_n 1, 1) := dk_27 (dk_at dksX8_bits_1 0 rfl rfl)
theorem dX8_bits_25 : decode cX8_bits 25 = .ok (.ireturn, 1) := dk_172 (dk_at dksX8_bits_1 1 rfl rfl)
abbrev cX8_graft : ByteArray := prog_21_method_71_code
def yX8_graft : MethodName := ⟨RX8, "graft", "(III)I"⟩
def dkwX8_graft_5 : List UInt8 := [128, 182, 0, 100, 42, 28, 3, 182, 0, 57, 184, 0, 242, 172]
abbrev dktX8_graft_5 : List UInt8 := dkwX8_graft_5 ++ []
def dkwX8_graft_4 : List UInt8 := [182, 0, 57, 4, 29, 120, 2, 130, 126, 182, 0, 100, 42, 28, 3, 42, 28, 3, 182, 0, 57, 4, 29, 120]
abbrev dktX8_graft_4 : List UInt8 := dkwX8_graft_4 ++ dktX8_graft_5
def dkwX8_graft_3 : List UInt8 := [181, 0, 50, 42, 180, 0, 50, 158, 0, 5, 3, 172, 42, 182, 1, 23, 42, 27, 3, 42, 27, 3]
abbrev dktX8_graft_3 : List UInt8 := dkwX8_graft_3 ++ dktX8_graft_4
def dkwX8_graft_2 : List UInt8 := [184, 0, 107, 153, 0, 16, 42, 28, 3, 182, 0, 57, 29, 184, 0, 107, 153, 0, 7, 6, 167, 0, 4, 3]
abbrev dktX8_graft_2 : List UInt8 := dkwX8_graft_2 ++ dktX8_graft_3
def dkwX8_graft_1 : List UInt8 := [154, 0, 7, 4, 167, 0, 43, 27, 28, 160, 0, 7, 5, 167, 0, 34, 42, 27, 3, 182, 0, 57, 29]
abbrev dktX8_graft_1 : List UInt8 := dkwX8_graft_1 ++ dktX8_graft_2
def dkwX8_graft_0 : List UInt8 := [42, 42, 27, 182, 0, 250, 153, 0, 21, 42, 28, 182, 0, 250, 153, 0, 13, 29, 3, 16, 7, 184, 0, 53]
abbrev dktX8_graft_0 : List UInt8 := dkwX8_graft_0 ++ dktX8_graft_1
theorem dksX8_graft_0 : cX8_graft.data.toList.drop 0 = dktX8_graft_0 := by decide +kernel
theorem dksX8_graft_1 : cX8_graft.data.toList.drop 24 = dktX8_graft_1 := dk_seg dksX8_graft_0 24 rfl rfl
theorem dksX8_graft_2 : cX8_graft.data.toList.drop 47 = dktX8_graft_2 := dk_seg dksX8_graft_1 23 rfl rfl
theorem dksX8_graft_3 : cX8_graft.data.toList.drop 71 = dktX8_graft_3 := dk_seg dksX8_graft_2 24 rfl rfl
theorem dksX8_graft_4 : cX8_graft.data.toList.drop 93 = dktX8_graft_4 := dk_seg dksX8_graft_3 22 rfl rfl
theorem dksX8_graft_5 : cX8_graft.data.toList.drop 117 = dktX8_graft_5 := dk_seg dksX8_graft_4 24 rfl rfl
theorem dX8_graft_0 : decode cX8_graft 0 = .ok (.aload_n 0, 1) := dk_42 (dk_at dksX8_graft_0 0 rfl rfl)
theorem dX8_graft_1 : decode cX8_graft 1 = .ok (.aload_n 0, 1) := dk_42 (dk_at dksX8_graft_0 1 rfl rfl)
theorem dX8_graft_2 : decode cX8_graft 2 = .ok (.iload_n 1, 1) := dk_27 (dk_at dksX8_graft_0 2 rfl rfl)
theorem dX8_graft_3 : decode cX8_graft 3 = .ok (.invokevirtual 250, 3) := dk_182 0 250 (dk_at dksX8_graft_0 3 rfl rfl)
theorem dX8_graft_6 : decode cX8_graft 6 = .ok (.ifCond .eq 21, 3) := dk_153 0 21 (dk_at dksX8_graft_0 6 rfl rfl)
theorem dX8_graft_9 : decode cX8_graft 9 = .ok (.aload_n 0, 1) := dk_42 (dk_at dksX8_graft_0 9 rfl rfl)
theorem dX8_graft_10 : decode cX8_graft 10 = .ok (.iload_n 2, 1) := dk_28 (dk_at dksX8_graft_0 10 rfl rfl)
theorem dX8_graft_11 : decode cX8_graft 11 = .ok (.invokevirtual 250, 3) := dk_182 0 250 (dk_at dksX8_graft_0 11 rfl rfl)
theorem dX8_graft_14 : decode cX8_graft 14 = .ok (.ifCond .eq 13, 3) := dk_153 0 13 (dk_at dksX8_graft_0 14 rfl rfl)
theorem dX8_graft_17 : decode cX8_graft 17 = .ok (.iload_n 3, 1) := dk_29 (dk_at dksX8_graft_0 17 rfl rfl)
theorem dX8_graft_18 : decode cX8_graft 18 = .ok (.iconst 0, 1) := dk_3 (dk_at dksX8_graft_0 18 rfl rfl)
theorem dX8_graft_19 : decode cX8_graft 19 = .ok (.bipush 7, 2) := dk_16 7 (dk_at dksX8_graft_0 19 rfl rfl)
theorem dX8_graft_21 : decode cX8_graft 21 = .ok (.invokestatic 53, 3) := dk_184 0 53 (dk_at dksX8_graft_0 21 rfl rfl)
theorem dX8_graft_24 : decode cX8_graft 24 = .ok (.ifCond .ne 7, 3) := dk_154 0 7 (dk_at dksX8_graft_1 0 rfl rfl)
theorem dX8_graft_27 : decode cX8_graft 27 = .ok (.iconst 1, 1) := dk_4 (dk_at dksX8_graft_1 3 rfl rfl)
theorem dX8_graft_28 : decode cX8_graft 28 = .ok (.goto 43, 3) := dk_167 0 43 (dk_at dksX8_graft_1 4 rfl rfl)
theorem dX8_graft_31 : decode cX8_graft 31 = .ok (.iload_n 1, 1) := dk_27 (dk_at dksX8_graft_1 7 rfl rfl)
theorem dX8_graft_32 : decode cX8_graft 32 = .ok (.iload_n 2, 1) := dk_28 (dk_at dksX8_graft_1 8 rfl rfl)
theorem dX8_graft_33 : decode cX8_graft 33 = .ok (.if_icmp .ne 7, 3) := dk_160 0 7 (dk_at dksX8_graft_1 9 rfl rfl)
theorem dX8_graft_36 : decode cX8_graft 36 = .ok (.iconst 2, 1) := dk_5 (dk_at dksX8_graft_1 12 rfl rfl)
theorem dX8_graft_37 : decode cX8_graft 37 = .ok (.goto 34, 3) := dk_167 0 34 (dk_at dksX8_graft_1 13 rfl rfl)
theorem dX8_graft_40 : decode cX8_graft 40 = .ok (.aload_n 0, 1) := dk_42 (dk_at dksX8_graft_1 16 rfl rfl)
theorem dX8_graft_41 : decode cX8_graft 41 = .ok (.iload_n 1, 1) := dk_27 (dk_at dksX8_graft_1 17 rfl rfl)
theorem dX8_graft_42 : decode cX8_graft 42 = .ok (.iconst 0, 1) := dk_3 (dk_at dksX8_graft_1 18 rfl rfl)
theorem dX8_graft_43 : decode cX8_graft 43 = .ok (.invokevirtual 57, 3) := dk_182 0 57 (dk_at dksX8_graft_1 19 rfl rfl)
theorem dX8_graft_46 : decode cX8_graft 46 = .ok (.iload_n 3, 1) := dk_29 (dk_at dksX8_graft_1 22 rfl rfl)
theorem dX8_graft_47 : decode cX8_graft 47 = .ok (.invokestatic 107, 3) := dk_184 0 107 (dk_at dksX8_graft_2 0 rfl rfl)
theorem dX8_graft_50 : decode cX8_graft 50 = .ok (.ifCond .eq 16, 3) := dk_153 0 16 (dk_at dksX8_graft_2 3 rfl rfl)
theorem dX8_graft_53 : decode cX8_graft 53 = .ok (.aload_n 0, 1) := dk_42 (dk_at dksX8_graft_2 6 rfl rfl)
theorem dX8_graft_54 : decode cX8_graft 54 = .ok (.iload_n 2, 1) := dk_28 (dk_at dksX8_graft_2 7 rfl rfl)
theorem dX8_graft_55 : decode cX8_graft 55 = .ok (.iconst 0, 1) := dk_3 (dk_at dksX8_graft_2 8 rfl rfl)
theorem dX8_graft_56 : decode cX8_graft 56 = .ok (.invokevirtual 57, 3) := dk_182 0 57 (dk_at dksX8_graft_2 9 rfl rfl)
theorem dX8_graft_59 : decode cX8_graft 59 = .ok (.iload_n 3, 1) := dk_29 (dk_at dksX8_graft_2 12 rfl rfl)
theorem dX8_graft_60 : decode cX8_graft 60 = .ok (.invokestatic 107, 3) := dk_184 0 107 (dk_at dksX8_graft_2 13 rfl rfl)
theorem dX8_graft_63 : decode cX8_graft 63 = .ok (.ifCond .eq 7, 3) := dk_153 0 7 (dk_at dksX8_graft_2 16 rfl rfl)
theorem dX8_graft_66 : decode cX8_graft 66 = .ok (.iconst 3, 1) := dk_6 (dk_at dksX8_graft_2 19 rfl rfl)
theorem dX8_graft_67 : decode cX8_graft 67 = .ok (.goto 4, 3) := dk_167 0 4 (dk_at dksX8_graft_2 20 rfl rfl)
theorem dX8_graft_70 : decode cX8_graft 70 = .ok (.iconst 0, 1) := dk_3 (dk_at dksX8_graft_2 23 rfl rfl)
theorem dX8_graft_71 : decode cX8_graft 71 = .ok (.putfield 50, 3) := dk_181 0 50 (dk_at dksX8_graft_3 0 rfl rfl)
theorem dX8_graft_74 : decode cX8_graft 74 = .ok (.aload_n 0, 1) := dk_42 (dk_at dksX8_graft_3 3 rfl rfl)
theorem dX8_graft_75 : decode cX8_graft 75 = .ok (.getfield 50, 3) := dk_180 0 50 (dk_at dksX8_graft_3 4 rfl rfl)
theorem dX8_graft_78 : decode cX8_graft 78 = .ok (.ifCond .le 5, 3) := dk_158 0 5 (dk_at dksX8_graft_3 7 rfl rfl)
theorem dX8_graft_81 : decode cX8_graft 81 = .ok (.iconst 0, 1) := dk_3 (dk_at dksX8_graft_3 10 rfl rfl)
theorem dX8_graft_82 : decode cX8_graft 82 = .ok (.ireturn, 1) := dk_172 (dk_at dksX8_graft_3 11 rfl rfl)
theorem dX8_graft_83 : decode cX8_graft 83 = .ok (.aload_n 0, 1) := dk_42 (dk_at dksX8_graft_3 12 rfl rfl)
theorem dX8_graft_84 : decode cX8_graft 84 = .ok (.invokevirtual 279, 3) := dk_182 1 23 (dk_at dksX8_graft_3 13 rfl rfl)
theorem dX8_graft_87 : decode cX8_graft 87 = .ok (.aload_n 0, 1) := dk_42 (dk_at dksX8_graft_3 16 rfl rfl)
theorem dX8_graft_88 : decode cX8_graft 88 = .ok (.iload_n 1, 1) := dk_27 (dk_at dksX8_graft_3 17 rfl rfl)
theorem dX8_graft_89 : decode cX8_graft 89 = .ok (.iconst 0, 1) := dk_3 (dk_at dksX8_graft_3 18 rfl rfl)
theorem dX8_graft_90 : decode cX8_graft 90 = .ok (.aload_n 0, 1) := dk_42 (dk_at dksX8_graft_3 19 rfl rfl)
theorem dX8_graft_91 : decode cX8_graft 91 = .ok (.iload_n 1, 1) := dk_27 (dk_at dksX8_graft_3 20 rfl rfl)
theorem dX8_graft_92 : decode cX8_graft 92 = .ok (.iconst 0, 1) := dk_3 (dk_at dksX8_graft_3 21 rfl rfl)
theorem dX8_graft_93 : decode cX8_graft 93 = .ok (.invokevirtual 57, 3) := dk_182 0 57 (dk_at dksX8_graft_4 0 rfl rfl)
theorem dX8_graft_96 : decode cX8_graft 96 = .ok (.iconst 1, 1) := dk_4 (dk_at dksX8_graft_4 3 rfl rfl)
theorem dX8_graft_97 : decode cX8_graft 97 = .ok (.iload_n 3, 1) := dk_29 (dk_at dksX8_graft_4 4 rfl rfl)
theorem dX8_graft_98 : decode cX8_graft 98 = .ok (.ishl, 1) := dk_120 (dk_at dksX8_graft_4 5 rfl rfl)
theorem dX8_graft_99 : decode cX8_graft 99 = .ok (.iconst (-1), 1) := dk_2 (dk_at dksX8_graft_4 6 rfl rfl)
theorem dX8_graft_100 : decode cX8_graft 100 = .ok (.ixor, 1) := dk_130 (dk_at dksX8_graft_4 7 rfl rfl)
theorem dX8_graft_101 : decode cX8_graft 101 = .ok (.iand, 1) := dk_126 (dk_at dksX8_graft_4 8 rfl rfl)
theorem dX8_graft_102 : decode cX8_graft 102 = .ok (.invokevirtual 100, 3) := dk_182 0 100 (dk_at dksX8_graft_4 9 rfl rfl)
theorem dX8_graft_105 : decode cX8_graft 105 = .ok (.aload_n 0, 1) := dk_42 (dk_at dksX8_graft_4 12 rfl rfl)
theorem dX8_graft_106 : decode cX8_graft 106 = .ok (.iload_n 2, 1) := dk_28 (dk_at dksX8_graft_4 13 rfl rfl)
theorem dX8_graft_107 : decode cX8_graft 107 = .ok (.iconst 0, 1) := dk_3 (dk_at dksX8_graft_4 14 rfl rfl)
theorem dX8_graft_108 : decode cX8_graft 108 = .ok (.aload_n 0, 1) := dk_42 (dk_at dksX8_graft_4 15 rfl rfl)
theorem dX8_graft_109 : decode cX8_graft 109 = .ok (.iload_n 2, 1) := dk_28 (dk_at dksX8_graft_4 16 rfl rfl)
theorem dX8_graft_110 : decode cX8_graft 110 = .ok (.iconst 0, 1) := dk_3 (dk_at dksX8_graft_4 17 rfl rfl)
theorem dX8_graft_111 : decode cX8_graft 111 = .ok (.invokevirtual 57, 3) := dk_182 0 57 (dk_at dksX8_graft_4 18 rfl rfl)
theorem dX8_graft_114 : decode cX8_graft 114 = .ok (.iconst 1, 1) := dk_4 (dk_at dksX8_graft_4 21 rfl rfl)
theorem dX8_graft_115 : decode cX8_graft 115 = .ok (.iload_n 3, 1) := dk_29 (dk_at dksX8_graft_4 22 rfl rfl)
theorem dX8_graft_116 : decode cX8_graft 116 = .ok (.ishl, 1) := dk_120 (dk_at dksX8_graft_4 23 rfl rfl)
theorem dX8_graft_117 : decode cX8_graft 117 = .ok (.ior, 1) := dk_128 (dk_at dksX8_graft_5 0 rfl rfl)
theorem dX8_graft_118 : decode cX8_graft 118 = .ok (.invokevirtual 100, 3) := dk_182 0 100 (dk_at dksX8_graft_5 1 rfl rfl)
theorem dX8_graft_121 : decode cX8_graft 121 = .ok (.aload_n 0, 1) := dk_42 (dk_at dksX8_graft_5 4 rfl rfl)
theorem dX8_graft_122 : decode cX8_graft 122 = .ok (.iload_n 2, 1) := dk_28 (dk_at dksX8_graft_5 5 rfl rfl)
theorem dX8_graft_123 : decode cX8_graft 123 = .ok (.iconst 0, 1) := dk_3 (dk_at dksX8_graft_5 6 rfl rfl)
theorem dX8_graft_124 : decode cX8_graft 124 = .ok (.invokevirtual 57, 3) := dk_182 0 57 (dk_at dksX8_graft_5 7 rfl rfl)
theorem dX8_graft_127 : decode cX8_graft 127 = .ok (.invokestatic 242, 3) := dk_184 0 242 (dk_at dksX8_graft_5 10 rfl rfl)
theorem dX8_graft_130 : decode cX8_graft 130 = .ok (.ireturn, 1) := dk_172 (dk_at dksX8_graft_5 13 rfl rfl)
abbrev cX8_meet : ByteArray := prog_21_method_73_code
def yX8_meet : MethodName := ⟨RX8, "meet", "(II)I"⟩
def dkwX8_meet_1 : List UInt8 := [27, 28, 182, 1, 35, 172]
abbrev dktX8_meet_1 : List UInt8 := dkwX8_meet_1 ++ []
def dkwX8_meet_0 : List UInt8 := [42, 42, 27, 28, 182, 1, 9, 181, 0, 50, 42, 180, 0, 50, 158, 0, 5, 3, 172, 42, 182, 1, 23, 42]
abbrev dktX8_meet_0 : List UInt8 := dkwX8_meet_0 ++ dktX8_meet_1
theorem dksX8_meet_0 : cX8_meet.data.toList.drop 0 = dktX8_meet_0 := by decide +kernel
theorem dksX8_meet_1 : cX8_meet.data.toList.drop 24 = dktX8_meet_1 := dk_seg dksX8_meet_0 24 rfl rfl
theorem dX8_meet_0 : decode cX8_meet 0 = .ok (.aload_n 0, 1) := dk_42 (dk_at dksX8_meet_0 0 rfl rfl)
theorem dX8_meet_1 : decode cX8_meet 1 = .ok (.aload_n 0, 1) := dk_42 (dk_at dksX8_meet_0 1 rfl rfl)
theorem dX8_meet_2 : decode cX8_meet 2 = .ok (.iload_n 1, 1) := dk_27 (dk_at dksX8_meet_0 2 rfl rfl)
theorem dX8_meet_3 : decode cX8_meet 3 = .ok (.iload_n 2, 1) := dk_28 (dk_at dksX8_meet_0 3 rfl rfl)
theorem dX8_meet_4 : decode cX8_meet 4 = .ok (.invokevirtual 265, 3) := dk_182 1 9 (dk_at dksX8_meet_0 4 rfl rfl)
theorem dX8_meet_7 : decode cX8_meet 7 = .ok (.putfield 50, 3) := dk_181 0 50 (dk_at dksX8_meet_0 7 rfl rfl)
theorem dX8_meet_10 : decode cX8_meet 10 = .ok (.aload_n 0, 1) := dk_42 (dk_at dksX8_meet_0 10 rfl rfl)
theorem dX8_meet_11 : decode cX8_meet 11 = .ok (.getfield 50, 3) := dk_180 0 50 (dk_at dksX8_meet_0 11 rfl rfl)
theorem dX8_meet_14 : decode cX8_meet 14 = .ok (.ifCond .le 5, 3) := dk_158 0 5 (dk_at dksX8_meet_0 14 rfl rfl)
theorem dX8_meet_17 : decode cX8_meet 17 = .ok (.iconst 0, 1) := dk_3 (dk_at dksX8_meet_0 17 rfl rfl)
theorem dX8_meet_18 : decode cX8_meet 18 = .ok (.ireturn, 1) := dk_172 (dk_at dksX8_meet_0 18 rfl rfl)
theorem dX8_meet_19 : decode cX8_meet 19 = .ok (.aload_n 0, 1) := dk_42 (dk_at dksX8_meet_0 19 rfl rfl)
theorem dX8_meet_20 : decode cX8_meet 20 = .ok (.invokevirtual 279, 3) := dk_182 1 23 (dk_at dksX8_meet_0 20 rfl rfl)
theorem dX8_meet_23 : decode cX8_meet 23 = .ok (.aload_n 0, 1) := dk_42 (dk_at dksX8_meet_0 23 rfl rfl)
theorem dX8_meet_24 : decode cX8_meet 24 = .ok (.iload_n 1, 1) := dk_27 (dk_at dksX8_meet_1 0 rfl rfl)
theorem dX8_meet_25 : decode cX8_meet 25 = .ok (.iload_n 2, 1) := dk_28 (dk_at dksX8_meet_1 1 rfl rfl)
theorem dX8_meet_26 : decode cX8_meet 26 = .ok (.invokevirtual 291, 3) := dk_182 1 35 (dk_at dksX8_meet_1 2 rfl rfl)
theorem dX8_meet_29 : decode cX8_meet 29 = .ok (.ireturn, 1) := dk_172 (dk_at dksX8_meet_1 5 rfl rfl)
abbrev cX8_meets : ByteArray := prog_21_method_72_code
def yX8_meets : MethodName := ⟨RX8, "meets", "(II)I"⟩
def dkwX8_meets_3 : List UInt8 := [180, 0, 7, 17, 0, 172, 16, 10, 28, 104, 96, 27, 96, 42, 27, 8, 182, 0, 57, 79, 29, 172]
abbrev dktX8_meets_3 : List UInt8 := dkwX8_meets_3 ++ []
def dkwX8_meets_2 : List UInt8 := [42, 180, 0, 7, 17, 0, 172, 16, 10, 27, 104, 96, 28, 96, 42, 28, 8, 182, 0, 57, 79, 42]
abbrev dktX8_meets_2 : List UInt8 := dkwX8_meets_2 ++ dktX8_meets_3
def dkwX8_meets_1 : List UInt8 := [8, 29, 4, 27, 120, 2, 130, 126, 182, 0, 100, 42, 28, 8, 29, 4, 28, 120, 2, 130, 126, 182, 0, 100]
abbrev dktX8_meets_1 : List UInt8 := dkwX8_meets_1 ++ dktX8_meets_2
def dkwX8_meets_0 : List UInt8 := [42, 27, 8, 182, 0, 57, 42, 28, 8, 182, 0, 57, 128, 4, 27, 120, 128, 4, 28, 120, 128, 62, 42, 27]
abbrev dktX8_meets_0 : List UInt8 := dkwX8_meets_0 ++ dktX8_meets_1
theorem dksX8_meets_0 : cX8_meets.data.toList.drop 0 = dktX8_meets_0 := by decide +kernel
theorem dksX8_meets_1 : cX8_meets.data.toList.drop 24 = dktX8_meets_1 := dk_seg dksX8_meets_0 24 rfl rfl
theorem dksX8_meets_2 : cX8_meets.data.toList.drop 48 = dktX8_meets_2 := dk_seg dksX8_meets_1 24 rfl rfl
theorem dksX8_meets_3 : cX8_meets.data.toList.drop 70 = dktX8_meets_3 := dk_seg dksX8_meets_2 22 rfl rfl
theorem dX8_meets_0 : decode cX8_meets 0 = .ok (.aload_n 0, 1) := dk_42 (dk_at dksX8_meets_0 0 rfl rfl)
theorem dX8_meets_1 : decode cX8_meets 1 = .ok (.iload_n 1, 1) := dk_27 (dk_at dksX8_meets_0 1 rfl rfl)
theorem dX8_meets_2 : decode cX8_meets 2 = .ok (.iconst 5, 1) := dk_8 (dk_at dksX8_meets_0 2 rfl rfl)
theorem dX8_meets_3 : decode cX8_meets 3 = .ok (.invokevirtual 57, 3) := dk_182 0 57 (dk_at dksX8_meets_0 3 rfl rfl)
theorem dX8_meets_6 : decode cX8_meets 6 = .ok (.aload_n 0, 1) := dk_42 (dk_at dksX8_meets_0 6 rfl rfl)
theorem dX8_meets_7 : decode cX8_meets 7 = .ok (.iload_n 2, 1) := dk_28 (dk_at dksX8_meets_0 7 rfl rfl)
theorem dX8_meets_8 : decode cX8_meets 8 = .ok (.iconst 5, 1) := dk_8 (dk_at dksX8_meets_0 8 rfl rfl)
theorem dX8_meets_9 : decode cX8_meets 9 = .ok (.invokevirtual 57, 3) := dk_182 0 57 (dk_at dksX8_meets_0 9 rfl rfl)
theorem dX8_meets_12 : decode cX8_meets 12 = .ok (.ior, 1) := dk_128 (dk_at dksX8_meets_0 12 rfl rfl)
theorem dX8_meets_13 : decode cX8_meets 13 = .ok (.iconst 1, 1) := dk_4 (dk_at dksX8_meets_0 13 rfl rfl)
theorem dX8_meets_14 : decode cX8_meets 14 = .ok (.iload_n 1, 1) := dk_27 (dk_at dksX8_meets_0 14 rfl rfl)
theorem dX8_meets_15 : decode cX8_meets 15 = .ok (.ishl, 1) := dk_120 (dk_at dksX8_meets_0 15 rfl rfl)
theorem dX8_meets_16 : decode cX8_meets 16 = .ok (.ior, 1) := dk_128 (dk_at dksX8_meets_0 16 rfl rfl)
theorem dX8_meets_17 : decode cX8_meets 17 = .ok (.iconst 1, 1) := dk_4 (dk_at dksX8_meets_0 17 rfl rfl)
theorem dX8_meets_18 : decode cX8_meets 18 = .ok (.iload_n 2, 1) := dk_28 (dk_at dksX8_meets_0 18 rfl rfl)
theorem dX8_meets_19 : decode cX8_meets 19 = .ok (.ishl, 1) := dk_120 (dk_at dksX8_meets_0 19 rfl rfl)
theorem dX8_meets_20 : decode cX8_meets 20 = .ok (.ior, 1) := dk_128 (dk_at dksX8_meets_0 20 rfl rfl)
theorem dX8_meets_21 : decode cX8_meets 21 = .ok (.istore_n 3, 1) := dk_62 (dk_at dksX8_meets_0 21 rfl rfl)
theorem dX8_meets_22 : decode cX8_meets 22 = .ok (.aload_n 0, 1) := dk_42 (dk_at dksX8_meets_0 22 rfl rfl)
theorem dX8_meets_23 : decode cX8_meets 23 = .ok (.iload_n 1, 1) := dk_27 (dk_at dksX8_meets_0 23 rfl rfl)
theorem dX8_meets_24 : decode cX8_meets 24 = .ok (.iconst 5, 1) := dk_8 (dk_at dksX8_meets_1 0 rfl rfl)
theorem dX8_meets_25 : decode cX8_meets 25 = .ok (.iload_n 3, 1) := dk_29 (dk_at dksX8_meets_1 1 rfl rfl)
theorem dX8_meets_26 : decode cX8_meets 26 = .ok (.iconst 1, 1) := dk_4 (dk_at dksX8_meets_1 2 rfl rfl)
theorem dX8_meets_27 : decode cX8_meets 27 = .ok (.iload_n 1, 1) := dk_27 (dk_at dksX8_meets_1 3 rfl rfl)
theorem dX8_meets_28 : decode cX8_meets 28 = .ok (.ishl, 1) := dk_120 (dk_at dksX8_meets_1 4 rfl rfl)
theorem dX8_meets_29 : decode cX8_meets 29 = .ok (.iconst (-1), 1) := dk_2 (dk_at dksX8_meets_1 5 rfl rfl)
theorem dX8_meets_30 : decode cX8_meets 30 = .ok (.ixor, 1) := dk_130 (dk_at dksX8_meets_1 6 rfl rfl)
theorem dX8_meets_31 : decode cX8_meets 31 = .ok (.iand, 1) := dk_126 (dk_at dksX8_meets_1 7 rfl rfl)
theorem dX8_meets_32 : decode cX8_meets 32 = .ok (.invokevirtual 100, 3) := dk_182 0 100 (dk_at dksX8_meets_1 8 rfl rfl)
theorem dX8_meets_35 : decode cX8_meets 35 = .ok (.aload_n 0, 1) := dk_42 (dk_at dksX8_meets_1 11 rfl rfl)
theorem dX8_meets_36 : decode cX8_meets 36 = .ok (.iload_n 2, 1) := dk_28 (dk_at dksX8_meets_1 12 rfl rfl)
theorem dX8_meets_37 : decode cX8_meets 37 = .ok (.iconst 5, 1) := dk_8 (dk_at dksX8_meets_1 13 rfl rfl)
theorem dX8_meets_38 : decode cX8_meets 38 = .ok (.iload_n 3, 1) := dk_29 (dk_at dksX8_meets_1 14 rfl rfl)
theorem dX8_meets_39 : decode cX8_meets 39 = .ok (.iconst 1, 1) := dk_4 (dk_at dksX8_meets_1 15 rfl rfl)
theorem dX8_meets_40 : decode cX8_meets 40 = .ok (.iload_n 2, 1) := dk_28 (dk_at dksX8_meets_1 16 rfl rfl)
theorem dX8_meets_41 : decode cX8_meets 41 = .ok (.ishl, 1) := dk_120 (dk_at dksX8_meets_1 17 rfl rfl)
theorem dX8_meets_42 : decode cX8_meets 42 = .ok (.iconst (-1), 1) := dk_2 (dk_at dksX8_meets_1 18 rfl rfl)
theorem dX8_meets_43 : decode cX8_meets 43 = .ok (.ixor, 1) := dk_130 (dk_at dksX8_meets_1 19 rfl rfl)
theorem dX8_meets_44 : decode cX8_meets 44 = .ok (.iand, 1) := dk_126 (dk_at dksX8_meets_1 20 rfl rfl)
theorem dX8_meets_45 : decode cX8_meets 45 = .ok (.invokevirtual 100, 3) := dk_182 0 100 (dk_at dksX8_meets_1 21 rfl rfl)
theorem dX8_meets_48 : decode cX8_meets 48 = .ok (.aload_n 0, 1) := dk_42 (dk_at dksX8_meets_2 0 rfl rfl)
theorem dX8_meets_49 : decode cX8_meets 49 = .ok (.getfield 7, 3) := dk_180 0 7 (dk_at dksX8_meets_2 1 rfl rfl)
theorem dX8_meets_52 : decode cX8_meets 52 = .ok (.sipush 172, 3) := dk_17 0 172 (dk_at dksX8_meets_2 4 rfl rfl)
theorem dX8_meets_55 : decode cX8_meets 55 = .ok (.bipush 10, 2) := dk_16 10 (dk_at dksX8_meets_2 7 rfl rfl)
theorem dX8_meets_57 : decode cX8_meets 57 = .ok (.iload_n 1, 1) := dk_27 (dk_at dksX8_meets_2 9 rfl rfl)
theorem dX8_meets_58 : decode cX8_meets 58 = .ok (.imul, 1) := dk_104 (dk_at dksX8_meets_2 10 rfl rfl)
theorem dX8_meets_59 : decode cX8_meets 59 = .ok (.iadd, 1) := dk_96 (dk_at dksX8_meets_2 11 rfl rfl)
theorem dX8_meets_60 : decode cX8_meets 60 = .ok (.iload_n 2, 1) := dk_28 (dk_at dksX8_meets_2 12 rfl rfl)
theorem dX8_meets_61 : decode cX8_meets 61 = .ok (.iadd, 1) := dk_96 (dk_at dksX8_meets_2 13 rfl rfl)
theorem dX8_meets_62 : decode cX8_meets 62 = .ok (.aload_n 0, 1) := dk_42 (dk_at dksX8_meets_2 14 rfl rfl)
theorem dX8_meets_63 : decode cX8_meets 63 = .ok (.iload_n 2, 1) := dk_28 (dk_at dksX8_meets_2 15 rfl rfl)
theorem dX8_meets_64 : decode cX8_meets 64 = .ok (.iconst 5, 1) := dk_8 (dk_at dksX8_meets_2 16 rfl rfl)
theorem dX8_meets_65 : decode cX8_meets 65 = .ok (.invokevirtual 57, 3) := dk_182 0 57 (dk_at dksX8_meets_2 17 rfl rfl)
theorem dX8_meets_68 : decode cX8_meets 68 = .ok (.iastore, 1) := dk_79 (dk_at dksX8_meets_2 20 rfl rfl)
theorem dX8_meets_69 : decode cX8_meets 69 = .ok (.aload_n 0, 1) := dk_42 (dk_at dksX8_meets_2 21 rfl rfl)
theorem dX8_meets_70 : decode cX8_meets 70 = .ok (.getfield 7, 3) := dk_180 0 7 (dk_at dksX8_meets_3 0 rfl rfl)
theorem dX8_meets_73 : decode cX8_meets 73 = .ok (.sipush 172, 3) := dk_17 0 172 (dk_at dksX8_meets_3 3 rfl rfl)
theorem dX8_meets_76 : decode cX8_meets 76 = .ok (.bipush 10, 2) := dk_16 10 (dk_at dksX8_meets_3 6 rfl rfl)
theorem dX8_meets_78 : decode cX8_meets 78 = .ok (.iload_n 2, 1) := dk_28 (dk_at dksX8_meets_3 8 rfl rfl)
theorem dX8_meets_79 : decode cX8_meets 79 = .ok (.imul, 1) := dk_104 (dk_at dksX8_meets_3 9 rfl rfl)
theorem dX8_meets_80 : decode cX8_meets 80 = .ok (.iadd, 1) := dk_96 (dk_at dksX8_meets_3 10 rfl rfl)
theorem dX8_meets_81 : decode cX8_meets 81 = .ok (.iload_n 1, 1) := dk_27 (dk_at dksX8_meets_3 11 rfl rfl)
theorem dX8_meets_82 : decode cX8_meets 82 = .ok (.iadd, 1) := dk_96 (dk_at dksX8_meets_3 12 rfl rfl)
theorem dX8_meets_83 : decode cX8_meets 83 = .ok (.aload_n 0, 1) := dk_42 (dk_at dksX8_meets_3 13 rfl rfl)
theorem dX8_meets_84 : decode cX8_meets 84 = .ok (.iload_n 1, 1) := dk_27 (dk_at dksX8_meets_3 14 rfl rfl)
theorem dX8_meets_85 : decode cX8_meets 85 = .ok (.iconst 5, 1) := dk_8 (dk_at dksX8_meets_3 15 rfl rfl)
theorem dX8_meets_86 : decode cX8_meets 86 = .ok (.invokevirtual 57, 3) := dk_182 0 57 (dk_at dksX8_meets_3 16 rfl rfl)
theorem dX8_meets_89 : decode cX8_meets 89 = .ok (.iastore, 1) := dk_79 (dk_at dksX8_meets_3 19 rfl rfl)
theorem dX8_meets_90 : decode cX8_meets 90 = .ok (.iload_n 3, 1) := dk_29 (dk_at dksX8_meets_3 20 rfl rfl)
theorem dX8_meets_91 : decode cX8_meets 91 = .ok (.ireturn, 1) := dk_172 (dk_at dksX8_meets_3 21 rfl rfl)
abbrev cX8_hours : ByteArray := prog_21_method_80_code
def yX8_hours : MethodName := ⟨RX8, "hours", "(I)I"⟩
def dkwX8_hours_1 : List UInt8 := [158, 0, 5, 3, 172, 42, 182, 1, 23, 42, 27, 182, 1, 58, 172]
abbrev dktX8_hours_1 : List UInt8 := dkwX8_hours_1 ++ []
def dkwX8_hours_0 : List UInt8 := [42, 27, 4, 16, 50, 184, 0, 53, 154, 0, 7, 4, 167, 0, 4, 3, 181, 0, 50, 42, 180, 0, 50]
abbrev dktX8_hours_0 : List UInt8 := dkwX8_hours_0 ++ dktX8_hours_1
theorem dksX8_hours_0 : cX8_hours.data.toList.drop 0 = dktX8_hours_0 := by decide +kernel
theorem dksX8_hours_1 : cX8_hours.data.toList.drop 23 = dktX8_hours_1 := dk_seg dksX8_hours_0 23 rfl rfl
theorem dX8_hours_0 : decode cX8_hours 0 = .ok (.aload_n 0, 1) := dk_42 (dk_at dksX8_hours_0 0 rfl rfl)
theorem dX8_hours_1 : decode cX8_hours 1 = .ok (.iload_n 1, 1) := dk_27 (dk_at dksX8_hours_0 1 rfl rfl)
theorem dX8_hours_2 : decode cX8_hours 2 = .ok (.iconst 1, 1) := dk_4 (dk_at dksX8_hours_0 2 rfl rfl)
theorem dX8_hours_3 : decode cX8_hours 3 = .ok (.bipush 50, 2) := dk_16 50 (dk_at dksX8_hours_0 3 rfl rfl)
theorem dX8_hours_5 : decode cX8_hours 5 = .ok (.invokestatic 53, 3) := dk_184 0 53 (dk_at dksX8_hours_0 5 rfl rfl)
theorem dX8_hours_8 : decode cX8_hours 8 = .ok (.ifCond .ne 7, 3) := dk_154 0 7 (dk_at dksX8_hours_0 8 rfl rfl)
theorem dX8_hours_11 : decode cX8_hours 11 = .ok (.iconst 1, 1) := dk_4 (dk_at dksX8_hours_0 11 rfl rfl)
theorem dX8_hours_12 : decode cX8_hours 12 = .ok (.goto 4, 3) := dk_167 0 4 (dk_at dksX8_hours_0 12 rfl rfl)
theorem dX8_hours_15 : decode cX8_hours 15 = .ok (.iconst 0, 1) := dk_3 (dk_at dksX8_hours_0 15 rfl rfl)
theorem dX8_hours_16 : decode cX8_hours 16 = .ok (.putfield 50, 3) := dk_181 0 50 (dk_at dksX8_hours_0 16 rfl rfl)
theorem dX8_hours_19 : decode cX8_hours 19 = .ok (.aload_n 0, 1) := dk_42 (dk_at dksX8_hours_0 19 rfl rfl)
theorem dX8_hours_20 : decode cX8_hours 20 = .ok (.getfield 50, 3) := dk_180 0 50 (dk_at dksX8_hours_0 20 rfl rfl)
theorem dX8_hours_23 : decode cX8_hours 23 = .ok (.ifCond .le 5, 3) := dk_158 0 5 (dk_at dksX8_hours_1 0 rfl rfl)
theorem dX8_hours_26 : decode cX8_hours 26 = .ok (.iconst 0, 1) := dk_3 (dk_at dksX8_hours_1 3 rfl rfl)
theorem dX8_hours_27 : decode cX8_hours 27 = .ok (.ireturn, 1) := dk_172 (dk_at dksX8_hours_1 4 rfl rfl)
theorem dX8_hours_28 : decode cX8_hours 28 = .ok (.aload_n 0, 1) := dk_42 (dk_at dksX8_hours_1 5 rfl rfl)
theorem dX8_hours_29 : decode cX8_hours 29 = .ok (.invokevirtual 279, 3) := dk_182 1 23 (dk_at dksX8_hours_1 6 rfl rfl)
theorem dX8_hours_32 : decode cX8_hours 32 = .ok (.aload_n 0, 1) := dk_42 (dk_at dksX8_hours_1 9 rfl rfl)
theorem dX8_hours_33 : decode cX8_hours 33 = .ok (.iload_n 1, 1) := dk_27 (dk_at dksX8_hours_1 10 rfl rfl)
theorem dX8_hours_34 : decode cX8_hours 34 = .ok (.invokevirtual 314, 3) := dk_182 1 58 (dk_at dksX8_hours_1 11 rfl rfl)
theorem dX8_hours_37 : decode cX8_hours 37 = .ok (.ireturn, 1) := dk_172 (dk_at dksX8_hours_1 14 rfl rfl)
abbrev cX8_goes : ByteArray := prog_21_method_79_code
def yX8_goes : MethodName := ⟨RX8, "goes", "(I)I"⟩
def dkwX8_goes_0 : List UInt8 := [3, 61, 3, 62, 29, 27, 162, 0, 16, 28, 42, 182, 1, 56, 96, 61, 132, 3, 1, 167, 255, 241, 28, 172]
abbrev dktX8_goes_0 : List UInt8 := dkwX8_goes_0 ++ []
theorem dksX8_goes_0 : cX8_goes.data.toList.drop 0 = dktX8_goes_0 := by decide +kernel
theorem dX8_goes_0 : decode cX8_goes 0 = .ok (.iconst 0, 1) := dk_3 (dk_at dksX8_goes_0 0 rfl rfl)
theorem dX8_goes_1 : decode cX8_goes 1 = .ok (.istore_n 2, 1) := dk_61 (dk_at dksX8_goes_0 1 rfl rfl)
theorem dX8_goes_2 : decode cX8_goes 2 = .ok (.iconst 0, 1) := dk_3 (dk_at dksX8_goes_0 2 rfl rfl)
theorem dX8_goes_3 : decode cX8_goes 3 = .ok (.istore_n 3, 1) := dk_62 (dk_at dksX8_goes_0 3 rfl rfl)
theorem dX8_goes_4 : decode cX8_goes 4 = .ok (.iload_n 3, 1) := dk_29 (dk_at dksX8_goes_0 4 rfl rfl)
theorem dX8_goes_5 : decode cX8_goes 5 = .ok (.iload_n 1, 1) := dk_27 (dk_at dksX8_goes_0 5 rfl rfl)
theorem dX8_goes_6 : decode cX8_goes 6 = .ok (.if_icmp .ge 16, 3) := dk_162 0 16 (dk_at dksX8_goes_0 6 rfl rfl)
theorem dX8_goes_9 : decode cX8_goes 9 = .ok (.iload_n 2, 1) := dk_28 (dk_at dksX8_goes_0 9 rfl rfl)
theorem dX8_goes_10 : decode cX8_goes 10 = .ok (.aload_n 0, 1) := dk_42 (dk_at dksX8_goes_0 10 rfl rfl)
theorem dX8_goes_11 : decode cX8_goes 11 = .ok (.invokevirtual 312, 3) := dk_182 1 56 (dk_at dksX8_goes_0 11 rfl rfl)
theorem dX8_goes_14 : decode cX8_goes 14 = .ok (.iadd, 1) := dk_96 (dk_at dksX8_goes_0 14 rfl rfl)
theorem dX8_goes_15 : decode cX8_goes 15 = .ok (.istore_n 2, 1) := dk_61 (dk_at dksX8_goes_0 15 rfl rfl)
theorem dX8_goes_16 : decode cX8_goes 16 = .ok (.iinc 3 1, 3) := dk_132 3 1 (dk_at dksX8_goes_0 16 rfl rfl)
theorem dX8_goes_19 : decode cX8_goes 19 = .ok (.goto (-15), 3) := dk_167 255 241 (dk_at dksX8_goes_0 19 rfl rfl)
theorem dX8_goes_22 : decode cX8_goes 22 = .ok (.iload_n 2, 1) := dk_28 (dk_at dksX8_goes_0 22 rfl rfl)
theorem dX8_goes_23 : decode cX8_goes 23 = .ok (.ireturn, 1) := dk_172 (dk_at dksX8_goes_0 23 rfl rfl)
abbrev cX8_hour : ByteArray := prog_21_method_78_code
def yX8_hour : MethodName := ⟨RX8, "hour", "()I"⟩
def dkwX8_hour_9 : List UInt8 := [182, 0, 245, 158, 0, 7, 42, 182, 1, 53, 42, 180, 0, 7, 8, 92, 46, 4, 96, 79, 27, 172]
abbrev dktX8_hour_9 : List UInt8 := dkwX8_hour_9 ++ []
def dkwX8_hour_8 : List UInt8 := [182, 1, 50, 182, 1, 31, 42, 16, 100, 182, 1, 38, 42, 180, 0, 7, 16, 7, 46, 162, 0, 14, 42]
abbrev dktX8_hour_8 : List UInt8 := dkwX8_hour_8 ++ dktX8_hour_9
def dkwX8_hour_7 : List UInt8 := [29, 182, 1, 38, 2, 182, 1, 50, 54, 4, 42, 21, 4, 42, 42, 29, 4, 100, 182, 1, 38, 21, 4]
abbrev dktX8_hour_7 : List UInt8 := dkwX8_hour_7 ++ dktX8_hour_8
def dkwX8_hour_6 : List UInt8 := [167, 0, 4, 3, 61, 42, 182, 1, 47, 184, 0, 242, 62, 28, 153, 0, 39, 29, 4, 164, 0, 34, 42, 42]
abbrev dktX8_hour_6 : List UInt8 := dkwX8_hour_6 ++ dktX8_hour_7
def dkwX8_hour_5 : List UInt8 := [132, 2, 1, 167, 255, 139, 42, 16, 100, 182, 1, 38, 42, 180, 0, 7, 16, 6, 46, 162, 0, 7, 4]
abbrev dktX8_hour_5 : List UInt8 := dkwX8_hour_5 ++ dktX8_hour_6
def dkwX8_hour_4 : List UInt8 := [167, 0, 24, 29, 154, 0, 20, 42, 180, 0, 239, 153, 0, 13, 42, 28, 182, 1, 29, 54, 5, 132, 1, 1]
abbrev dktX8_hour_4 : List UInt8 := dkwX8_hour_4 ++ dktX8_hour_5
def dkwX8_hour_3 : List UInt8 := [42, 182, 1, 44, 2, 159, 0, 20, 42, 28, 42, 182, 1, 44, 182, 1, 26, 54, 5, 132, 1, 1]
abbrev dktX8_hour_3 : List UInt8 := dkwX8_hour_3 ++ dktX8_hour_4
def dkwX8_hour_2 : List UInt8 := [21, 4, 160, 0, 6, 167, 0, 65, 42, 28, 182, 1, 41, 29, 153, 0, 35, 42, 180, 0, 236, 153, 0, 28]
abbrev dktX8_hour_2 : List UInt8 := dkwX8_hour_2 ++ dktX8_hour_3
def dkwX8_hour_1 : List UInt8 := [4, 167, 0, 4, 3, 62, 42, 28, 6, 182, 0, 57, 2, 159, 0, 7, 4, 167, 0, 4, 3, 54, 4, 29]
abbrev dktX8_hour_1 : List UInt8 := dkwX8_hour_1 ++ dktX8_hour_2
def dkwX8_hour_0 : List UInt8 := [3, 60, 3, 61, 28, 42, 180, 0, 7, 6, 46, 162, 0, 113, 42, 28, 5, 182, 0, 57, 2, 159, 0, 7]
abbrev dktX8_hour_0 : List UInt8 := dkwX8_hour_0 ++ dktX8_hour_1
theorem dksX8_hour_0 : cX8_hour.data.toList.drop 0 = dktX8_hour_0 := by decide +kernel
theorem dksX8_hour_1 : cX8_hour.data.toList.drop 24 = dktX8_hour_1 := dk_seg dksX8_hour_0 24 rfl rfl
theorem dksX8_hour_2 : cX8_hour.data.toList.drop 48 = dktX8_hour_2 := dk_seg dksX8_hour_1 24 rfl rfl
theorem dksX8_hour_3 : cX8_hour.data.toList.drop 72 = dktX8_hour_3 := dk_seg dksX8_hour_2 24 rfl rfl
theorem dksX8_hour_4 : cX8_hour.data.toList.drop 94 = dktX8_hour_4 := dk_seg dksX8_hour_3 22 rfl rfl
theorem dksX8_hour_5 : cX8_hour.data.toList.drop 118 = dktX8_hour_5 := dk_seg dksX8_hour_4 24 rfl rfl
theorem dksX8_hour_6 : cX8_hour.data.toList.drop 141 = dktX8_hour_6 := dk_seg dksX8_hour_5 23 rfl rfl
theorem dksX8_hour_7 : cX8_hour.data.toList.drop 165 = dktX8_hour_7 := dk_seg dksX8_hour_6 24 rfl rfl
theorem dksX8_hour_8 : cX8_hour.data.toList.drop 188 = dktX8_hour_8 := dk_seg dksX8_hour_7 23 rfl rfl
theorem dksX8_hour_9 : cX8_hour.data.toList.drop 211 = dktX8_hour_9 := dk_seg dksX8_hour_8 23 rfl rfl
theorem dX8_hour_0 : decode cX8_hour 0 = .ok (.iconst 0, 1) := dk_3 (dk_at dksX8_hour_0 0 rfl rfl)
theorem dX8_hour_1 : decode cX8_hour 1 = .ok (.istore_n 1, 1) := dk_60 (dk_at dksX8_hour_0 1 rfl rfl)
theorem dX8_hour_2 : decode cX8_hour 2 = .ok (.iconst 0, 1) := dk_3 (dk_at dksX8_hour_0 2 rfl rfl)
theorem dX8_hour_3 : decode cX8_hour 3 = .ok (.istore_n 2, 1) := dk_61 (dk_at dksX8_hour_0 3 rfl rfl)
theorem dX8_hour_4 : decode cX8_hour 4 = .ok (.iload_n 2, 1) := dk_28 (dk_at dksX8_hour_0 4 rfl rfl)
theorem dX8_hour_5 : decode cX8_hour 5 = .ok (.aload_n 0, 1) := dk_42 (dk_at dksX8_hour_0 5 rfl rfl)
theorem dX8_hour_6 : decode cX8_hour 6 = .ok (.getfield 7, 3) := dk_180 0 7 (dk_at dksX8_hour_0 6 rfl rfl)
theorem dX8_hour_9 : decode cX8_hour 9 = .ok (.iconst 3, 1) := dk_6 (dk_at dksX8_hour_0 9 rfl rfl)
theorem dX8_hour_10 : decode cX8_hour 10 = .ok (.iaload, 1) := dk_46 (dk_at dksX8_hour_0 10 rfl rfl)
theorem dX8_hour_11 : decode cX8_hour 11 = .ok (.if_icmp .ge 113, 3) := dk_162 0 113 (dk_at dksX8_hour_0 11 rfl rfl)
theorem dX8_hour_14 : decode cX8_hour 14 = .ok (.aload_n 0, 1) := dk_42 (dk_at dksX8_hour_0 14 rfl rfl)
theorem dX8_hour_15 : decode cX8_hour 15 = .ok (.iload_n 2, 1) := dk_28 (dk_at dksX8_hour_0 15 rfl rfl)
theorem dX8_hour_16 : decode cX8_hour 16 = .ok (.iconst 2, 1) := dk_5 (dk_at dksX8_hour_0 16 rfl rfl)
theorem dX8_hour_17 : decode cX8_hour 17 = .ok (.invokevirtual 57, 3) := dk_182 0 57 (dk_at dksX8_hour_0 17 rfl rfl)
theorem dX8_hour_20 : decode cX8_hour 20 = .ok (.iconst (-1), 1) := dk_2 (dk_at dksX8_hour_0 20 rfl rfl)
theorem dX8_hour_21 : decode cX8_hour 21 = .ok (.if_icmp .eq 7, 3) := dk_159 0 7 (dk_at dksX8_hour_0 21 rfl rfl)
theorem dX8_hour_24 : decode cX8_hour 24 = .ok (.iconst 1, 1) := dk_4 (dk_at dksX8_hour_1 0 rfl rfl)
theorem dX8_hour_25 : decode cX8_hour 25 = .ok (.goto 4, 3) := dk_167 0 4 (dk_at dksX8_hour_1 1 rfl rfl)
theorem dX8_hour_28 : decode cX8_hour 28 = .ok (.iconst 0, 1) := dk_3 (dk_at dksX8_hour_1 4 rfl rfl)
theorem dX8_hour_29 : decode cX8_hour 29 = .ok (.istore_n 3, 1) := dk_62 (dk_at dksX8_hour_1 5 rfl rfl)
theorem dX8_hour_30 : decode cX8_hour 30 = .ok (.aload_n 0, 1) := dk_42 (dk_at dksX8_hour_1 6 rfl rfl)
theorem dX8_hour_31 : decode cX8_hour 31 = .ok (.iload_n 2, 1) := dk_28 (dk_at dksX8_hour_1 7 rfl rfl)
theorem dX8_hour_32 : decode cX8_hour 32 = .ok (.iconst 3, 1) := dk_6 (dk_at dksX8_hour_1 8 rfl rfl)
theorem dX8_hour_33 : decode cX8_hour 33 = .ok (.invokevirtual 57, 3) := dk_182 0 57 (dk_at dksX8_hour_1 9 rfl rfl)
theorem dX8_hour_36 : decode cX8_hour 36 = .ok (.iconst (-1), 1) := dk_2 (dk_at dksX8_hour_1 12 rfl rfl)
theorem dX8_hour_37 : decode cX8_hour 37 = .ok (.if_icmp .eq 7, 3) := dk_159 0 7 (dk_at dksX8_hour_1 13 rfl rfl)
theorem dX8_hour_40 : decode cX8_hour 40 = .ok (.iconst 1, 1) := dk_4 (dk_at dksX8_hour_1 16 rfl rfl)
theorem dX8_hour_41 : decode cX8_hour 41 = .ok (.goto 4, 3) := dk_167 0 4 (dk_at dksX8_hour_1 17 rfl rfl)
theorem dX8_hour_44 : decode cX8_hour 44 = .ok (.iconst 0, 1) := dk_3 (dk_at dksX8_hour_1 20 rfl rfl)
theorem dX8_hour_45 : decode cX8_hour 45 = .ok (.istore 4, 2) := dk_54 4 (dk_at dksX8_hour_1 21 rfl rfl)
theorem dX8_hour_47 : decode cX8_hour 47 = .ok (.iload_n 3, 1) := dk_29 (dk_at dksX8_hour_1 23 rfl rfl)
theorem dX8_hour_48 : decode cX8_hour 48 = .ok (.iload 4, 2) := dk_21 4 (dk_at dksX8_hour_2 0 rfl rfl)
theorem dX8_hour_50 : decode cX8_hour 50 = .ok (.if_icmp .ne 6, 3) := dk_160 0 6 (dk_at dksX8_hour_2 2 rfl rfl)
theorem dX8_hour_53 : decode cX8_hour 53 = .ok (.goto 65, 3) := dk_167 0 65 (dk_at dksX8_hour_2 5 rfl rfl)
theorem dX8_hour_56 : decode cX8_hour 56 = .ok (.aload_n 0, 1) := dk_42 (dk_at dksX8_hour_2 8 rfl rfl)
theorem dX8_hour_57 : decode cX8_hour 57 = .ok (.iload_n 2, 1) := dk_28 (dk_at dksX8_hour_2 9 rfl rfl)
theorem dX8_hour_58 : decode cX8_hour 58 = .ok (.invokevirtual 297, 3) := dk_182 1 41 (dk_at dksX8_hour_2 10 rfl rfl)
theorem dX8_hour_61 : decode cX8_hour 61 = .ok (.iload_n 3, 1) := dk_29 (dk_at dksX8_hour_2 13 rfl rfl)
theorem dX8_hour_62 : decode cX8_hour 62 = .ok (.ifCond .eq 35, 3) := dk_153 0 35 (dk_at dksX8_hour_2 14 rfl rfl)
theorem dX8_hour_65 : decode cX8_hour 65 = .ok (.aload_n 0, 1) := dk_42 (dk_at dksX8_hour_2 17 rfl rfl)
theorem dX8_hour_66 : decode cX8_hour 66 = .ok (.getfield 236, 3) := dk_180 0 236 (dk_at dksX8_hour_2 18 rfl rfl)
theorem dX8_hour_69 : decode cX8_hour 69 = .ok (.ifCond .eq 28, 3) := dk_153 0 28 (dk_at dksX8_hour_2 21 rfl rfl)
theorem dX8_hour_72 : decode cX8_hour 72 = .ok (.aload_n 0, 1) := dk_42 (dk_at dksX8_hour_3 0 rfl rfl)
theorem dX8_hour_73 : decode cX8_hour 73 = .ok (.invokevirtual 300, 3) := dk_182 1 44 (dk_at dksX8_hour_3 1 rfl rfl)
theorem dX8_hour_76 : decode cX8_hour 76 = .ok (.iconst (-1), 1) := dk_2 (dk_at dksX8_hour_3 4 rfl rfl)
theorem dX8_hour_77 : decode cX8_hour 77 = .ok (.if_icmp .eq 20, 3) := dk_159 0 20 (dk_at dksX8_hour_3 5 rfl rfl)
theorem dX8_hour_80 : decode cX8_hour 80 = .ok (.aload_n 0, 1) := dk_42 (dk_at dksX8_hour_3 8 rfl rfl)
theorem dX8_hour_81 : decode cX8_hour 81 = .ok (.iload_n 2, 1) := dk_28 (dk_at dksX8_hour_3 9 rfl rfl)
theorem dX8_hour_82 : decode cX8_hour 82 = .ok (.aload_n 0, 1) := dk_42 (dk_at dksX8_hour_3 10 rfl rfl)
theorem dX8_hour_83 : decode cX8_hour 83 = .ok (.invokevirtual 300, 3) := dk_182 1 44 (dk_at dksX8_hour_3 11 rfl rfl)
theorem dX8_hour_86 : decode cX8_hour 86 = .ok (.invokevirtual 282, 3) := dk_182 1 26 (dk_at dksX8_hour_3 14 rfl rfl)
theorem dX8_hour_89 : decode cX8_hour 89 = .ok (.istore 5, 2) := dk_54 5 (dk_at dksX8_hour_3 17 rfl rfl)
theorem dX8_hour_91 : decode cX8_hour 91 = .ok (.iinc 1 1, 3) := dk_132 1 1 (dk_at dksX8_hour_3 19 rfl rfl)
theorem dX8_hour_94 : decode cX8_hour 94 = .ok (.goto 24, 3) := dk_167 0 24 (dk_at dksX8_hour_4 0 rfl rfl)
theorem dX8_hour_97 : decode cX8_hour 97 = .ok (.iload_n 3, 1) := dk_29 (dk_at dksX8_hour_4 3 rfl rfl)
theorem dX8_hour_98 : decode cX8_hour 98 = .ok (.ifCond .ne 20, 3) := dk_154 0 20 (dk_at dksX8_hour_4 4 rfl rfl)
theorem dX8_hour_101 : decode cX8_hour 101 = .ok (.aload_n 0, 1) := dk_42 (dk_at dksX8_hour_4 7 rfl rfl)
theorem dX8_hour_102 : decode cX8_hour 102 = .ok (.getfield 239, 3) := dk_180 0 239 (dk_at dksX8_hour_4 8 rfl rfl)
theorem dX8_hour_105 : decode cX8_hour 105 = .ok (.ifCond .eq 13, 3) := dk_153 0 13 (dk_at dksX8_hour_4 11 rfl rfl)
theorem dX8_hour_108 : decode cX8_hour 108 = .ok (.aload_n 0, 1) := dk_42 (dk_at dksX8_hour_4 14 rfl rfl)
theorem dX8_hour_109 : decode cX8_hour 109 = .ok (.iload_n 2, 1) := dk_28 (dk_at dksX8_hour_4 15 rfl rfl)
theorem dX8_hour_110 : decode cX8_hour 110 = .ok (.invokevirtual 285, 3) := dk_182 1 29 (dk_at dksX8_hour_4 16 rfl rfl)
theorem dX8_hour_113 : decode cX8_hour 113 = .ok (.istore 5, 2) := dk_54 5 (dk_at dksX8_hour_4 19 rfl rfl)
theorem dX8_hour_115 : decode cX8_hour 115 = .ok (.iinc 1 1, 3) := dk_132 1 1 (dk_at dksX8_hour_4 21 rfl rfl)
theorem dX8_hour_118 : decode cX8_hour 118 = .ok (.iinc 2 1, 3) := dk_132 2 1 (dk_at dksX8_hour_5 0 rfl rfl)
theorem dX8_hour_121 : decode cX8_hour 121 = .ok (.goto (-117), 3) := dk_167 255 139 (dk_at dksX8_hour_5 3 rfl rfl)
theorem dX8_hour_124 : decode cX8_hour 124 = .ok (.aload_n 0, 1) := dk_42 (dk_at dksX8_hour_5 6 rfl rfl)
theorem dX8_hour_125 : decode cX8_hour 125 = .ok (.bipush 100, 2) := dk_16 100 (dk_at dksX8_hour_5 7 rfl rfl)
theorem dX8_hour_127 : decode cX8_hour 127 = .ok (.invokevirtual 294, 3) := dk_182 1 38 (dk_at dksX8_hour_5 9 rfl rfl)
theorem dX8_hour_130 : decode cX8_hour 130 = .ok (.aload_n 0, 1) := dk_42 (dk_at dksX8_hour_5 12 rfl rfl)
theorem dX8_hour_131 : decode cX8_hour 131 = .ok (.getfield 7, 3) := dk_180 0 7 (dk_at dksX8_hour_5 13 rfl rfl)
theorem dX8_hour_134 : decode cX8_hour 134 = .ok (.bipush 6, 2) := dk_16 6 (dk_at dksX8_hour_5 16 rfl rfl)
theorem dX8_hour_136 : decode cX8_hour 136 = .ok (.iaload, 1) := dk_46 (dk_at dksX8_hour_5 18 rfl rfl)
theorem dX8_hour_137 : decode cX8_hour 137 = .ok (.if_icmp .ge 7, 3) := dk_162 0 7 (dk_at dksX8_hour_5 19 rfl rfl)
theorem dX8_hour_140 : decode cX8_hour 140 = .ok (.iconst 1, 1) := dk_4 (dk_at dksX8_hour_5 22 rfl rfl)
theorem dX8_hour_141 : decode cX8_hour 141 = .ok (.goto 4, 3) := dk_167 0 4 (dk_at dksX8_hour_6 0 rfl rfl)
theorem dX8_hour_144 : decode cX8_hour 144 = .ok (.iconst 0, 1) := dk_3 (dk_at dksX8_hour_6 3 rfl rfl)
theorem dX8_hour_145 : decode cX8_hour 145 = .ok (.istore_n 2, 1) := dk_61 (dk_at dksX8_hour_6 4 rfl rfl)
theorem dX8_hour_146 : decode cX8_hour 146 = .ok (.aload_n 0, 1) := dk_42 (dk_at dksX8_hour_6 5 rfl rfl)
theorem dX8_hour_147 : decode cX8_hour 147 = .ok (.invokevirtual 303, 3) := dk_182 1 47 (dk_at dksX8_hour_6 6 rfl rfl)
theorem dX8_hour_150 : decode cX8_hour 150 = .ok (.invokestatic 242, 3) := dk_184 0 242 (dk_at dksX8_hour_6 9 rfl rfl)
theorem dX8_hour_153 : decode cX8_hour 153 = .ok (.istore_n 3, 1) := dk_62 (dk_at dksX8_hour_6 12 rfl rfl)
theorem dX8_hour_154 : decode cX8_hour 154 = .ok (.iload_n 2, 1) := dk_28 (dk_at dksX8_hour_6 13 rfl rfl)
theorem dX8_hour_155 : decode cX8_hour 155 = .ok (.ifCond .eq 39, 3) := dk_153 0 39 (dk_at dksX8_hour_6 14 rfl rfl)
theorem dX8_hour_158 : decode cX8_hour 158 = .ok (.iload_n 3, 1) := dk_29 (dk_at dksX8_hour_6 17 rfl rfl)
theorem dX8_hour_159 : decode cX8_hour 159 = .ok (.iconst 1, 1) := dk_4 (dk_at dksX8_hour_6 18 rfl rfl)
theorem dX8_hour_160 : decode cX8_hour 160 = .ok (.if_icmp .le 34, 3) := dk_164 0 34 (dk_at dksX8_hour_6 19 rfl rfl)
theorem dX8_hour_163 : decode cX8_hour 163 = .ok (.aload_n 0, 1) := dk_42 (dk_at dksX8_hour_6 22 rfl rfl)
theorem dX8_hour_164 : decode cX8_hour 164 = .ok (.aload_n 0, 1) := dk_42 (dk_at dksX8_hour_6 23 rfl rfl)
theorem dX8_hour_165 : decode cX8_hour 165 = .ok (.iload_n 3, 1) := dk_29 (dk_at dksX8_hour_7 0 rfl rfl)
theorem dX8_hour_166 : decode cX8_hour 166 = .ok (.invokevirtual 294, 3) := dk_182 1 38 (dk_at dksX8_hour_7 1 rfl rfl)
theorem dX8_hour_169 : decode cX8_hour 169 = .ok (.iconst (-1), 1) := dk_2 (dk_at dksX8_hour_7 4 rfl rfl)
theorem dX8_hour_170 : decode cX8_hour 170 = .ok (.invokevirtual 306, 3) := dk_182 1 50 (dk_at dksX8_hour_7 5 rfl rfl)
theorem dX8_hour_173 : decode cX8_hour 173 = .ok (.istore 4, 2) := dk_54 4 (dk_at dksX8_hour_7 8 rfl rfl)
theorem dX8_hour_175 : decode cX8_hour 175 = .ok (.aload_n 0, 1) := dk_42 (dk_at dksX8_hour_7 10 rfl rfl)
theorem dX8_hour_176 : decode cX8_hour 176 = .ok (.iload 4, 2) := dk_21 4 (dk_at dksX8_hour_7 11 rfl rfl)
theorem dX8_hour_178 : decode cX8_hour 178 = .ok (.aload_n 0, 1) := dk_42 (dk_at dksX8_hour_7 13 rfl rfl)
theorem dX8_hour_179 : decode cX8_hour 179 = .ok (.aload_n 0, 1) := dk_42 (dk_at dksX8_hour_7 14 rfl rfl)
theorem dX8_hour_180 : decode cX8_hour 180 = .ok (.iload_n 3, 1) := dk_29 (dk_at dksX8_hour_7 15 rfl rfl)
theorem dX8_hour_181 : decode cX8_hour 181 = .ok (.iconst 1, 1) := dk_4 (dk_at dksX8_hour_7 16 rfl rfl)
theorem dX8_hour_182 : decode cX8_hour 182 = .ok (.isub, 1) := dk_100 (dk_at dksX8_hour_7 17 rfl rfl)
theorem dX8_hour_183 : decode cX8_hour 183 = .ok (.invokevirtual 294, 3) := dk_182 1 38 (dk_at dksX8_hour_7 18 rfl rfl)
theorem dX8_hour_186 : decode cX8_hour 186 = .ok (.iload 4, 2) := dk_21 4 (dk_at dksX8_hour_7 21 rfl rfl)
theorem dX8_hour_188 : decode cX8_hour 188 = .ok (.invokevirtual 306, 3) := dk_182 1 50 (dk_at dksX8_hour_8 0 rfl rfl)
theorem dX8_hour_191 : decode cX8_hour 191 = .ok (.invokevirtual 287, 3) := dk_182 1 31 (dk_at dksX8_hour_8 3 rfl rfl)
theorem dX8_hour_194 : decode cX8_hour 194 = .ok (.aload_n 0, 1) := dk_42 (dk_at dksX8_hour_8 6 rfl rfl)
theorem dX8_hour_195 : decode cX8_hour 195 = .ok (.bipush 100, 2) := dk_16 100 (dk_at dksX8_hour_8 7 rfl rfl)
theorem dX8_hour_197 : decode cX8_hour 197 = .ok (.invokevirtual 294, 3) := dk_182 1 38 (dk_at dksX8_hour_8 9 rfl rfl)
theorem dX8_hour_200 : decode cX8_hour 200 = .ok (.aload_n 0, 1) := dk_42 (dk_at dksX8_hour_8 12 rfl rfl)
theorem dX8_hour_201 : decode cX8_hour 201 = .ok (.getfield 7, 3) := dk_180 0 7 (dk_at dksX8_hour_8 13 rfl rfl)
theorem dX8_hour_204 : decode cX8_hour 204 = .ok (.bipush 7, 2) := dk_16 7 (dk_at dksX8_hour_8 16 rfl rfl)
theorem dX8_hour_206 : decode cX8_hour 206 = .ok (.iaload, 1) := dk_46 (dk_at dksX8_hour_8 18 rfl rfl)
theorem dX8_hour_207 : decode cX8_hour 207 = .ok (.if_icmp .ge 14, 3) := dk_162 0 14 (dk_at dksX8_hour_8 19 rfl rfl)
theorem dX8_hour_210 : decode cX8_hour 210 = .ok (.aload_n 0, 1) := dk_42 (dk_at dksX8_hour_8 22 rfl rfl)
theorem dX8_hour_211 : decode cX8_hour 211 = .ok (.invokevirtual 245, 3) := dk_182 0 245 (dk_at dksX8_hour_9 0 rfl rfl)
theorem dX8_hour_214 : decode cX8_hour 214 = .ok (.ifCond .le 7, 3) := dk_158 0 7 (dk_at dksX8_hour_9 3 rfl rfl)
theorem dX8_hour_217 : decode cX8_hour 217 = .ok (.aload_n 0, 1) := dk_42 (dk_at dksX8_hour_9 6 rfl rfl)
theorem dX8_hour_218 : decode cX8_hour 218 = .ok (.invokevirtual 309, 3) := dk_182 1 53 (dk_at dksX8_hour_9 7 rfl rfl)
theorem dX8_hour_221 : decode cX8_hour 221 = .ok (.aload_n 0, 1) := dk_42 (dk_at dksX8_hour_9 10 rfl rfl)
theorem dX8_hour_222 : decode cX8_hour 222 = .ok (.getfield 7, 3) := dk_180 0 7 (dk_at dksX8_hour_9 11 rfl rfl)
theorem dX8_hour_225 : decode cX8_hour 225 = .ok (.iconst 5, 1) := dk_8 (dk_at dksX8_hour_9 14 rfl rfl)
theorem dX8_hour_226 : decode cX8_hour 226 = .ok (.dup2, 1) := dk_92 (dk_at dksX8_hour_9 15 rfl rfl)
theorem dX8_hour_227 : decode cX8_hour 227 = .ok (.iaload, 1) := dk_46 (dk_at dksX8_hour_9 16 rfl rfl)
theorem dX8_hour_228 : decode cX8_hour 228 = .ok (.iconst 1, 1) := dk_4 (dk_at dksX8_hour_9 17 rfl rfl)
theorem dX8_hour_229 : decode cX8_hour 229 = .ok (.iadd, 1) := dk_96 (dk_at dksX8_hour_9 18 rfl rfl)
theorem dX8_hour_230 : decode cX8_hour 230 = .ok (.iastore, 1) := dk_79 (dk_at dksX8_hour_9 19 rfl rfl)
theorem dX8_hour_231 : decode cX8_hour 231 = .ok (.iload_n 1, 1) := dk_27 (dk_at dksX8_hour_9 20 rfl rfl)
theorem dX8_hour_232 : decode cX8_hour 232 = .ok (.ireturn, 1) := dk_172 (dk_at dksX8_hour_9 21 rfl rfl)
abbrev cX8_asks : ByteArray := prog_21_method_49_code
def yX8_asks : MethodName := ⟨RX8, "asks", "(I)V"⟩
def dkwX8_asks_10 : List UInt8 := [181, 0, 25, 177]
abbrev dktX8_asks_10 : List UInt8 := dkwX8_asks_10 ++ []
def dkwX8_asks_9 : List UInt8 := [181, 0, 70, 42, 3, 181, 0, 67, 42, 3, 181, 0, 157, 42, 4, 182, 0, 175, 54, 5, 42, 21, 4]
abbrev dktX8_asks_9 : List UInt8 := dkwX8_asks_9 ++ dktX8_asks_10
def dkwX8_asks_8 : List UInt8 := [180, 0, 25, 54, 4, 42, 2, 181, 0, 25, 42, 17, 2, 72, 181, 0, 64, 42, 42, 180, 0, 7, 5, 46]
abbrev dktX8_asks_8 : List UInt8 := dkwX8_asks_8 ++ dktX8_asks_9
def dkwX8_asks_7 : List UInt8 := [181, 0, 202, 42, 42, 27, 7, 182, 0, 57, 2, 159, 0, 7, 4, 167, 0, 4, 3, 181, 0, 206, 42]
abbrev dktX8_asks_7 : List UInt8 := dkwX8_asks_7 ++ dktX8_asks_8
def dkwX8_asks_6 : List UInt8 := [180, 0, 7, 7, 46, 42, 182, 0, 245, 100, 79, 42, 29, 27, 160, 0, 7, 4, 167, 0, 4, 3]
abbrev dktX8_asks_6 : List UInt8 := dkwX8_asks_6 ++ dktX8_asks_7
def dkwX8_asks_5 : List UInt8 := [182, 0, 57, 184, 0, 242, 79, 42, 180, 0, 29, 7, 42, 182, 0, 245, 79, 42, 180, 0, 29, 8, 42]
abbrev dktX8_asks_5 : List UInt8 := dkwX8_asks_5 ++ dktX8_asks_6
def dkwX8_asks_4 : List UInt8 := [16, 99, 167, 0, 4, 28, 79, 42, 180, 0, 29, 6, 29, 2, 160, 0, 7, 3, 167, 0, 12, 42, 29, 3]
abbrev dktX8_asks_4 : List UInt8 := dkwX8_asks_4 ++ dktX8_asks_5
def dkwX8_asks_3 : List UInt8 := [27, 79, 42, 180, 0, 29, 4, 42, 180, 0, 7, 8, 46, 79, 42, 180, 0, 29, 5, 28, 2, 160, 0, 8]
abbrev dktX8_asks_3 : List UInt8 := dkwX8_asks_3 ++ dktX8_asks_4
def dkwX8_asks_2 : List UInt8 := [2, 160, 0, 7, 2, 167, 0, 13, 42, 180, 0, 7, 17, 1, 16, 28, 96, 46, 62, 42, 180, 0, 29, 3]
abbrev dktX8_asks_2 : List UInt8 := dkwX8_asks_2 ++ dktX8_asks_3
def dkwX8_asks_1 : List UInt8 := [182, 0, 57, 61, 42, 27, 5, 182, 0, 57, 2, 159, 0, 12, 42, 27, 5, 182, 0, 57, 167, 0, 22, 28]
abbrev dktX8_asks_1 : List UInt8 := dkwX8_asks_1 ++ dktX8_asks_2
def dkwX8_asks_0 : List UInt8 := [42, 3, 181, 0, 236, 42, 3, 181, 0, 239, 42, 180, 0, 7, 4, 46, 4, 162, 0, 4, 177, 42, 27, 6]
abbrev dktX8_asks_0 : List UInt8 := dkwX8_asks_0 ++ dktX8_asks_1
theorem dksX8_asks_0 : cX8_asks.data.toList.drop 0 = dktX8_asks_0 := by decide +kernel
theorem dksX8_asks_1 : cX8_asks.data.toList.drop 24 = dktX8_asks_1 := dk_seg dksX8_asks_0 24 rfl rfl
theorem dksX8_asks_2 : cX8_asks.data.toList.drop 48 = dktX8_asks_2 := dk_seg dksX8_asks_1 24 rfl rfl
theorem dksX8_asks_3 : cX8_asks.data.toList.drop 72 = dktX8_asks_3 := dk_seg dksX8_asks_2 24 rfl rfl
theorem dksX8_asks_4 : cX8_asks.data.toList.drop 96 = dktX8_asks_4 := dk_seg dksX8_asks_3 24 rfl rfl
theorem dksX8_asks_5 : cX8_asks.data.toList.drop 120 = dktX8_asks_5 := dk_seg dksX8_asks_4 24 rfl rfl
theorem dksX8_asks_6 : cX8_asks.data.toList.drop 143 = dktX8_asks_6 := dk_seg dksX8_asks_5 23 rfl rfl
theorem dksX8_asks_7 : cX8_asks.data.toList.drop 165 = dktX8_asks_7 := dk_seg dksX8_asks_6 22 rfl rfl
theorem dksX8_asks_8 : cX8_asks.data.toList.drop 188 = dktX8_asks_8 := dk_seg dksX8_asks_7 23 rfl rfl
theorem dksX8_asks_9 : cX8_asks.data.toList.drop 212 = dktX8_asks_9 := dk_seg dksX8_asks_8 24 rfl rfl
theorem dksX8_asks_10 : cX8_asks.data.toList.drop 235 = dktX8_asks_10 := dk_seg dksX8_asks_9 23 rfl rfl
theorem dX8_asks_0 : decode cX8_asks 0 = .ok (.aload_n 0, 1) := dk_42 (dk_at dksX8_asks_0 0 rfl rfl)
theorem dX8_asks_1 : decode cX8_asks 1 = .ok (.iconst 0, 1) := dk_3 (dk_at dksX8_asks_0 1 rfl rfl)
theorem dX8_asks_2 : decode cX8_asks 2 = .ok (.putfield 236, 3) := dk_181 0 236 (dk_at dksX8_asks_0 2 rfl rfl)
theorem dX8_asks_5 : decode cX8_asks 5 = .ok (.aload_n 0, 1) := dk_42 (dk_at dksX8_asks_0 5 rfl rfl)
theorem dX8_asks_6 : decode cX8_asks 6 = .ok (.iconst 0, 1) := dk_3 (dk_at dksX8_asks_0 6 rfl rfl)
theorem dX8_asks_7 : decode cX8_asks 7 = .ok (.putfield 239, 3) := dk_181 0 239 (dk_at dksX8_asks_0 7 rfl rfl)
theorem dX8_asks_10 : decode cX8_asks 10 = .ok (.aload_n 0, 1) := dk_42 (dk_at dksX8_asks_0 10 rfl rfl)
theorem dX8_asks_11 : decode cX8_asks 11 = .ok (.getfield 7, 3) := dk_180 0 7 (dk_at dksX8_asks_0 11 rfl rfl)
theorem dX8_asks_14 : decode cX8_asks 14 = .ok (.iconst 1, 1) := dk_4 (dk_at dksX8_asks_0 14 rfl rfl)
theorem dX8_asks_15 : decode cX8_asks 15 = .ok (.iaload, 1) := dk_46 (dk_at dksX8_asks_0 15 rfl rfl)
theorem dX8_asks_16 : decode cX8_asks 16 = .ok (.iconst 1, 1) := dk_4 (dk_at dksX8_asks_0 16 rfl rfl)
theorem dX8_asks_17 : decode cX8_asks 17 = .ok (.if_icmp .ge 4, 3) := dk_162 0 4 (dk_at dksX8_asks_0 17 rfl rfl)
theorem dX8_asks_20 : decode cX8_asks 20 = .ok (.return_, 1) := dk_177 (dk_at dksX8_asks_0 20 rfl rfl)
theorem dX8_asks_21 : decode cX8_asks 21 = .ok (.aload_n 0, 1) := dk_42 (dk_at dksX8_asks_0 21 rfl rfl)
theorem dX8_asks_22 : decode cX8_asks 22 = .ok (.iload_n 1, 1) := dk_27 (dk_at dksX8_asks_0 22 rfl rfl)
theorem dX8_asks_23 : decode cX8_asks 23 = .ok (.iconst 3, 1) := dk_6 (dk_at dksX8_asks_0 23 rfl rfl)
theorem dX8_asks_24 : decode cX8_asks 24 = .ok (.invokevirtual 57, 3) := dk_182 0 57 (dk_at dksX8_asks_1 0 rfl rfl)
theorem dX8_asks_27 : decode cX8_asks 27 = .ok (.istore_n 2, 1) := dk_61 (dk_at dksX8_asks_1 3 rfl rfl)
theorem dX8_asks_28 : decode cX8_asks 28 = .ok (.aload_n 0, 1) := dk_42 (dk_at dksX8_asks_1 4 rfl rfl)
theorem dX8_asks_29 : decode cX8_asks 29 = .ok (.iload_n 1, 1) := dk_27 (dk_at dksX8_asks_1 5 rfl rfl)
theorem dX8_asks_30 : decode cX8_asks 30 = .ok (.iconst 2, 1) := dk_5 (dk_at dksX8_asks_1 6 rfl rfl)
theorem dX8_asks_31 : decode cX8_asks 31 = .ok (.invokevirtual 57, 3) := dk_182 0 57 (dk_at dksX8_asks_1 7 rfl rfl)
theorem dX8_asks_34 : decode cX8_asks 34 = .ok (.iconst (-1), 1) := dk_2 (dk_at dksX8_asks_1 10 rfl rfl)
theorem dX8_asks_35 : decode cX8_asks 35 = .ok (.if_icmp .eq 12, 3) := dk_159 0 12 (dk_at dksX8_asks_1 11 rfl rfl)
theorem dX8_asks_38 : decode cX8_asks 38 = .ok (.aload_n 0, 1) := dk_42 (dk_at dksX8_asks_1 14 rfl rfl)
theorem dX8_asks_39 : decode cX8_asks 39 = .ok (.iload_n 1, 1) := dk_27 (dk_at dksX8_asks_1 15 rfl rfl)
theorem dX8_asks_40 : decode cX8_asks 40 = .ok (.iconst 2, 1) := dk_5 (dk_at dksX8_asks_1 16 rfl rfl)
theorem dX8_asks_41 : decode cX8_asks 41 = .ok (.invokevirtual 57, 3) := dk_182 0 57 (dk_at dksX8_asks_1 17 rfl rfl)
theorem dX8_asks_44 : decode cX8_asks 44 = .ok (.goto 22, 3) := dk_167 0 22 (dk_at dksX8_asks_1 20 rfl rfl)
theorem dX8_asks_47 : decode cX8_asks 47 = .ok (.iload_n 2, 1) := dk_28 (dk_at dksX8_asks_1 23 rfl rfl)
theorem dX8_asks_48 : decode cX8_asks 48 = .ok (.iconst (-1), 1) := dk_2 (dk_at dksX8_asks_2 0 rfl rfl)
theorem dX8_asks_49 : decode cX8_asks 49 = .ok (.if_icmp .ne 7, 3) := dk_160 0 7 (dk_at dksX8_asks_2 1 rfl rfl)
theorem dX8_asks_52 : decode cX8_asks 52 = .ok (.iconst (-1), 1) := dk_2 (dk_at dksX8_asks_2 4 rfl rfl)
theorem dX8_asks_53 : decode cX8_asks 53 = .ok (.goto 13, 3) := dk_167 0 13 (dk_at dksX8_asks_2 5 rfl rfl)
theorem dX8_asks_56 : decode cX8_asks 56 = .ok (.aload_n 0, 1) := dk_42 (dk_at dksX8_asks_2 8 rfl rfl)
theorem dX8_asks_57 : decode cX8_asks 57 = .ok (.getfield 7, 3) := dk_180 0 7 (dk_at dksX8_asks_2 9 rfl rfl)
theorem dX8_asks_60 : decode cX8_asks 60 = .ok (.sipush 272, 3) := dk_17 1 16 (dk_at dksX8_asks_2 12 rfl rfl)
theorem dX8_asks_63 : decode cX8_asks 63 = .ok (.iload_n 2, 1) := dk_28 (dk_at dksX8_asks_2 15 rfl rfl)
theorem dX8_asks_64 : decode cX8_asks 64 = .ok (.iadd, 1) := dk_96 (dk_at dksX8_asks_2 16 rfl rfl)
theorem dX8_asks_65 : decode cX8_asks 65 = .ok (.iaload, 1) := dk_46 (dk_at dksX8_asks_2 17 rfl rfl)
theorem dX8_asks_66 : decode cX8_asks 66 = .ok (.istore_n 3, 1) := dk_62 (dk_at dksX8_asks_2 18 rfl rfl)
theorem dX8_asks_67 : decode cX8_asks 67 = .ok (.aload_n 0, 1) := dk_42 (dk_at dksX8_asks_2 19 rfl rfl)
theorem dX8_asks_68 : decode cX8_asks 68 = .ok (.getfield 29, 3) := dk_180 0 29 (dk_at dksX8_asks_2 20 rfl rfl)
theorem dX8_asks_71 : decode cX8_asks 71 = .ok (.iconst 0, 1) := dk_3 (dk_at dksX8_asks_2 23 rfl rfl)
theorem dX8_asks_72 : decode cX8_asks 72 = .ok (.iload_n 1, 1) := dk_27 (dk_at dksX8_asks_3 0 rfl rfl)
theorem dX8_asks_73 : decode cX8_asks 73 = .ok (.iastore, 1) := dk_79 (dk_at dksX8_asks_3 1 rfl rfl)
theorem dX8_asks_74 : decode cX8_asks 74 = .ok (.aload_n 0, 1) := dk_42 (dk_at dksX8_asks_3 2 rfl rfl)
theorem dX8_asks_75 : decode cX8_asks 75 = .ok (.getfield 29, 3) := dk_180 0 29 (dk_at dksX8_asks_3 3 rfl rfl)
theorem dX8_asks_78 : decode cX8_asks 78 = .ok (.iconst 1, 1) := dk_4 (dk_at dksX8_asks_3 6 rfl rfl)
theorem dX8_asks_79 : decode cX8_asks 79 = .ok (.aload_n 0, 1) := dk_42 (dk_at dksX8_asks_3 7 rfl rfl)
theorem dX8_asks_80 : decode cX8_asks 80 = .ok (.getfield 7, 3) := dk_180 0 7 (dk_at dksX8_asks_3 8 rfl rfl)
theorem dX8_asks_83 : decode cX8_asks 83 = .ok (.iconst 5, 1) := dk_8 (dk_at dksX8_asks_3 11 rfl rfl)
theorem dX8_asks_84 : decode cX8_asks 84 = .ok (.iaload, 1) := dk_46 (dk_at dksX8_asks_3 12 rfl rfl)
theorem dX8_asks_85 : decode cX8_asks 85 = .ok (.iastore, 1) := dk_79 (dk_at dksX8_asks_3 13 rfl rfl)
theorem dX8_asks_86 : decode cX8_asks 86 = .ok (.aload_n 0, 1) := dk_42 (dk_at dksX8_asks_3 14 rfl rfl)
theorem dX8_asks_87 : decode cX8_asks 87 = .ok (.getfield 29, 3) := dk_180 0 29 (dk_at dksX8_asks_3 15 rfl rfl)
theorem dX8_asks_90 : decode cX8_asks 90 = .ok (.iconst 2, 1) := dk_5 (dk_at dksX8_asks_3 18 rfl rfl)
theorem dX8_asks_91 : decode cX8_asks 91 = .ok (.iload_n 2, 1) := dk_28 (dk_at dksX8_asks_3 19 rfl rfl)
theorem dX8_asks_92 : decode cX8_asks 92 = .ok (.iconst (-1), 1) := dk_2 (dk_at dksX8_asks_3 20 rfl rfl)
theorem dX8_asks_93 : decode cX8_asks 93 = .ok (.if_icmp .ne 8, 3) := dk_160 0 8 (dk_at dksX8_asks_3 21 rfl rfl)
theorem dX8_asks_96 : decode cX8_asks 96 = .ok (.bipush 99, 2) := dk_16 99 (dk_at dksX8_asks_4 0 rfl rfl)
theorem dX8_asks_98 : decode cX8_asks 98 = .ok (.goto 4, 3) := dk_167 0 4 (dk_at dksX8_asks_4 2 rfl rfl)
theorem dX8_asks_101 : decode cX8_asks 101 = .ok (.iload_n 2, 1) := dk_28 (dk_at dksX8_asks_4 5 rfl rfl)
theorem dX8_asks_102 : decode cX8_asks 102 = .ok (.iastore, 1) := dk_79 (dk_at dksX8_asks_4 6 rfl rfl)
theorem dX8_asks_103 : decode cX8_asks 103 = .ok (.aload_n 0, 1) := dk_42 (dk_at dksX8_asks_4 7 rfl rfl)
theorem dX8_asks_104 : decode cX8_asks 104 = .ok (.getfield 29, 3) := dk_180 0 29 (dk_at dksX8_asks_4 8 rfl rfl)
theorem dX8_asks_107 : decode cX8_asks 107 = .ok (.iconst 3, 1) := dk_6 (dk_at dksX8_asks_4 11 rfl rfl)
theorem dX8_asks_108 : decode cX8_asks 108 = .ok (.iload_n 3, 1) := dk_29 (dk_at dksX8_asks_4 12 rfl rfl)
theorem dX8_asks_109 : decode cX8_asks 109 = .ok (.iconst (-1), 1) := dk_2 (dk_at dksX8_asks_4 13 rfl rfl)
theorem dX8_asks_110 : decode cX8_asks 110 = .ok (.if_icmp .ne 7, 3) := dk_160 0 7 (dk_at dksX8_asks_4 14 rfl rfl)
theorem dX8_asks_113 : decode cX8_asks 113 = .ok (.iconst 0, 1) := dk_3 (dk_at dksX8_asks_4 17 rfl rfl)
theorem dX8_asks_114 : decode cX8_asks 114 = .ok (.goto 12, 3) := dk_167 0 12 (dk_at dksX8_asks_4 18 rfl rfl)
theorem dX8_asks_117 : decode cX8_asks 117 = .ok (.aload_n 0, 1) := dk_42 (dk_at dksX8_asks_4 21 rfl rfl)
theorem dX8_asks_118 : decode cX8_asks 118 = .ok (.iload_n 3, 1) := dk_29 (dk_at dksX8_asks_4 22 rfl rfl)
theorem dX8_asks_119 : decode cX8_asks 119 = .ok (.iconst 0, 1) := dk_3 (dk_at dksX8_asks_4 23 rfl rfl)
theorem dX8_asks_120 : decode cX8_asks 120 = .ok (.invokevirtual 57, 3) := dk_182 0 57 (dk_at dksX8_asks_5 0 rfl rfl)
theorem dX8_asks_123 : decode cX8_asks 123 = .ok (.invokestatic 242, 3) := dk_184 0 242 (dk_at dksX8_asks_5 3 rfl rfl)
theorem dX8_asks_126 : decode cX8_asks 126 = .ok (.iastore, 1) := dk_79 (dk_at dksX8_asks_5 6 rfl rfl)
theorem dX8_asks_127 : decode cX8_asks 127 = .ok (.aload_n 0, 1) := dk_42 (dk_at dksX8_asks_5 7 rfl rfl)
theorem dX8_asks_128 : decode cX8_asks 128 = .ok (.getfield 29, 3) := dk_180 0 29 (dk_at dksX8_asks_5 8 rfl rfl)
theorem dX8_asks_131 : decode cX8_asks 131 = .ok (.iconst 4, 1) := dk_7 (dk_at dksX8_asks_5 11 rfl rfl)
theorem dX8_asks_132 : decode cX8_asks 132 = .ok (.aload_n 0, 1) := dk_42 (dk_at dksX8_asks_5 12 rfl rfl)
theorem dX8_asks_133 : decode cX8_asks 133 = .ok (.invokevirtual 245, 3) := dk_182 0 245 (dk_at dksX8_asks_5 13 rfl rfl)
theorem dX8_asks_136 : decode cX8_asks 136 = .ok (.iastore, 1) := dk_79 (dk_at dksX8_asks_5 16 rfl rfl)
theorem dX8_asks_137 : decode cX8_asks 137 = .ok (.aload_n 0, 1) := dk_42 (dk_at dksX8_asks_5 17 rfl rfl)
theorem dX8_asks_138 : decode cX8_asks 138 = .ok (.getfield 29, 3) := dk_180 0 29 (dk_at dksX8_asks_5 18 rfl rfl)
theorem dX8_asks_141 : decode cX8_asks 141 = .ok (.iconst 5, 1) := dk_8 (dk_at dksX8_asks_5 21 rfl rfl)
theorem dX8_asks_142 : decode cX8_asks 142 = .ok (.aload_n 0, 1) := dk_42 (dk_at dksX8_asks_5 22 rfl rfl)
theorem dX8_asks_143 : decode cX8_asks 143 = .ok (.getfield 7, 3) := dk_180 0 7 (dk_at dksX8_asks_6 0 rfl rfl)
theorem dX8_asks_146 : decode cX8_asks 146 = .ok (.iconst 4, 1) := dk_7 (dk_at dksX8_asks_6 3 rfl rfl)
theorem dX8_asks_147 : decode cX8_asks 147 = .ok (.iaload, 1) := dk_46 (dk_at dksX8_asks_6 4 rfl rfl)
theorem dX8_asks_148 : decode cX8_asks 148 = .ok (.aload_n 0, 1) := dk_42 (dk_at dksX8_asks_6 5 rfl rfl)
theorem dX8_asks_149 : decode cX8_asks 149 = .ok (.invokevirtual 245, 3) := dk_182 0 245 (dk_at dksX8_asks_6 6 rfl rfl)
theorem dX8_asks_152 : decode cX8_asks 152 = .ok (.isub, 1) := dk_100 (dk_at dksX8_asks_6 9 rfl rfl)
theorem dX8_asks_153 : decode cX8_asks 153 = .ok (.iastore, 1) := dk_79 (dk_at dksX8_asks_6 10 rfl rfl)
theorem dX8_asks_154 : decode cX8_asks 154 = .ok (.aload_n 0, 1) := dk_42 (dk_at dksX8_asks_6 11 rfl rfl)
theorem dX8_asks_155 : decode cX8_asks 155 = .ok (.iload_n 3, 1) := dk_29 (dk_at dksX8_asks_6 12 rfl rfl)
theorem dX8_asks_156 : decode cX8_asks 156 = .ok (.iload_n 1, 1) := dk_27 (dk_at dksX8_asks_6 13 rfl rfl)
theorem dX8_asks_157 : decode cX8_asks 157 = .ok (.if_icmp .ne 7, 3) := dk_160 0 7 (dk_at dksX8_asks_6 14 rfl rfl)
theorem dX8_asks_160 : decode cX8_asks 160 = .ok (.iconst 1, 1) := dk_4 (dk_at dksX8_asks_6 17 rfl rfl)
theorem dX8_asks_161 : decode cX8_asks 161 = .ok (.goto 4, 3) := dk_167 0 4 (dk_at dksX8_asks_6 18 rfl rfl)
theorem dX8_asks_164 : decode cX8_asks 164 = .ok (.iconst 0, 1) := dk_3 (dk_at dksX8_asks_6 21 rfl rfl)
theorem dX8_asks_165 : decode cX8_asks 165 = .ok (.putfield 202, 3) := dk_181 0 202 (dk_at dksX8_asks_7 0 rfl rfl)
theorem dX8_asks_168 : decode cX8_asks 168 = .ok (.aload_n 0, 1) := dk_42 (dk_at dksX8_asks_7 3 rfl rfl)
theorem dX8_asks_169 : decode cX8_asks 169 = .ok (.aload_n 0, 1) := dk_42 (dk_at dksX8_asks_7 4 rfl rfl)
theorem dX8_asks_170 : decode cX8_asks 170 = .ok (.iload_n 1, 1) := dk_27 (dk_at dksX8_asks_7 5 rfl rfl)
theorem dX8_asks_171 : decode cX8_asks 171 = .ok (.iconst 4, 1) := dk_7 (dk_at dksX8_asks_7 6 rfl rfl)
theorem dX8_asks_172 : decode cX8_asks 172 = .ok (.invokevirtual 57, 3) := dk_182 0 57 (dk_at dksX8_asks_7 7 rfl rfl)
theorem dX8_asks_175 : decode cX8_asks 175 = .ok (.iconst (-1), 1) := dk_2 (dk_at dksX8_asks_7 10 rfl rfl)
theorem dX8_asks_176 : decode cX8_asks 176 = .ok (.if_icmp .eq 7, 3) := dk_159 0 7 (dk_at dksX8_asks_7 11 rfl rfl)
theorem dX8_asks_179 : decode cX8_asks 179 = .ok (.iconst 1, 1) := dk_4 (dk_at dksX8_asks_7 14 rfl rfl)
theorem dX8_asks_180 : decode cX8_asks 180 = .ok (.goto 4, 3) := dk_167 0 4 (dk_at dksX8_asks_7 15 rfl rfl)
theorem dX8_asks_183 : decode cX8_asks 183 = .ok (.iconst 0, 1) := dk_3 (dk_at dksX8_asks_7 18 rfl rfl)
theorem dX8_asks_184 : decode cX8_asks 184 = .ok (.putfield 206, 3) := dk_181 0 206 (dk_at dksX8_asks_7 19 rfl rfl)
theorem dX8_asks_187 : decode cX8_asks 187 = .ok (.aload_n 0, 1) := dk_42 (dk_at dksX8_asks_7 22 rfl rfl)
theorem dX8_asks_188 : decode cX8_asks 188 = .ok (.getfield 25, 3) := dk_180 0 25 (dk_at dksX8_asks_8 0 rfl rfl)
theorem dX8_asks_191 : decode cX8_asks 191 = .ok (.istore 4, 2) := dk_54 4 (dk_at dksX8_asks_8 3 rfl rfl)
theorem dX8_asks_193 : decode cX8_asks 193 = .ok (.aload_n 0, 1) := dk_42 (dk_at dksX8_asks_8 5 rfl rfl)
theorem dX8_asks_194 : decode cX8_asks 194 = .ok (.iconst (-1), 1) := dk_2 (dk_at dksX8_asks_8 6 rfl rfl)
theorem dX8_asks_195 : decode cX8_asks 195 = .ok (.putfield 25, 3) := dk_181 0 25 (dk_at dksX8_asks_8 7 rfl rfl)
theorem dX8_asks_198 : decode cX8_asks 198 = .ok (.aload_n 0, 1) := dk_42 (dk_at dksX8_asks_8 10 rfl rfl)
theorem dX8_asks_199 : decode cX8_asks 199 = .ok (.sipush 584, 3) := dk_17 2 72 (dk_at dksX8_asks_8 11 rfl rfl)
theorem dX8_asks_202 : decode cX8_asks 202 = .ok (.putfield 64, 3) := dk_181 0 64 (dk_at dksX8_asks_8 14 rfl rfl)
theorem dX8_asks_205 : decode cX8_asks 205 = .ok (.aload_n 0, 1) := dk_42 (dk_at dksX8_asks_8 17 rfl rfl)
theorem dX8_asks_206 : decode cX8_asks 206 = .ok (.aload_n 0, 1) := dk_42 (dk_at dksX8_asks_8 18 rfl rfl)
theorem dX8_asks_207 : decode cX8_asks 207 = .ok (.getfield 7, 3) := dk_180 0 7 (dk_at dksX8_asks_8 19 rfl rfl)
theorem dX8_asks_210 : decode cX8_asks 210 = .ok (.iconst 2, 1) := dk_5 (dk_at dksX8_asks_8 22 rfl rfl)
theorem dX8_asks_211 : decode cX8_asks 211 = .ok (.iaload, 1) := dk_46 (dk_at dksX8_asks_8 23 rfl rfl)
theorem dX8_asks_212 : decode cX8_asks 212 = .ok (.putfield 70, 3) := dk_181 0 70 (dk_at dksX8_asks_9 0 rfl rfl)
theorem dX8_asks_215 : decode cX8_asks 215 = .ok (.aload_n 0, 1) := dk_42 (dk_at dksX8_asks_9 3 rfl rfl)
theorem dX8_asks_216 : decode cX8_asks 216 = .ok (.iconst 0, 1) := dk_3 (dk_at dksX8_asks_9 4 rfl rfl)
theorem dX8_asks_217 : decode cX8_asks 217 = .ok (.putfield 67, 3) := dk_181 0 67 (dk_at dksX8_asks_9 5 rfl rfl)
theorem dX8_asks_220 : decode cX8_asks 220 = .ok (.aload_n 0, 1) := dk_42 (dk_at dksX8_asks_9 8 rfl rfl)
theorem dX8_asks_221 : decode cX8_asks 221 = .ok (.iconst 0, 1) := dk_3 (dk_at dksX8_asks_9 9 rfl rfl)
theorem dX8_asks_222 : decode cX8_asks 222 = .ok (.putfield 157, 3) := dk_181 0 157 (dk_at dksX8_asks_9 10 rfl rfl)
theorem dX8_asks_225 : decode cX8_asks 225 = .ok (.aload_n 0, 1) := dk_42 (dk_at dksX8_asks_9 13 rfl rfl)
theorem dX8_asks_226 : decode cX8_asks 226 = .ok (.iconst 1, 1) := dk_4 (dk_at dksX8_asks_9 14 rfl rfl)
theorem dX8_asks_227 : decode cX8_asks 227 = .ok (.invokevirtual 175, 3) := dk_182 0 175 (dk_at dksX8_asks_9 15 rfl rfl)
theorem dX8_asks_230 : decode cX8_asks 230 = .ok (.istore 5, 2) := dk_54 5 (dk_at dksX8_asks_9 18 rfl rfl)
theorem dX8_asks_232 : decode cX8_asks 232 = .ok (.aload_n 0, 1) := dk_42 (dk_at dksX8_asks_9 20 rfl rfl)
theorem dX8_asks_233 : decode cX8_asks 233 = .ok (.iload 4, 2) := dk_21 4 (dk_at dksX8_asks_9 21 rfl rfl)
theorem dX8_asks_235 : decode cX8_asks 235 = .ok (.putfield 25, 3) := dk_181 0 25 (dk_at dksX8_asks_10 0 rfl rfl)
theorem dX8_asks_238 : decode cX8_asks 238 = .ok (.return_, 1) := dk_177 (dk_at dksX8_asks_10 3 rfl rfl)
abbrev cX8_hung : ByteArray := prog_21_method_15_code
def yX8_hung : MethodName := ⟨RX8, "hung", "()I"⟩
def dkwX8_hung_1 : List UInt8 := [46, 2, 160, 0, 7, 3, 167, 0, 4, 4, 96, 60, 132, 2, 1, 167, 255, 221, 27, 172]
abbrev dktX8_hung_1 : List UInt8 := dkwX8_hung_1 ++ []
def dkwX8_hung_0 : List UInt8 := [3, 60, 3, 61, 28, 42, 180, 0, 7, 7, 46, 162, 0, 31, 27, 42, 180, 0, 7, 17, 1, 16, 28, 96]
abbrev dktX8_hung_0 : List UInt8 := dkwX8_hung_0 ++ dktX8_hung_1
theorem dksX8_hung_0 : cX8_hung.data.toList.drop 0 = dktX8_hung_0 := by decide +kernel
theorem dksX8_hung_1 : cX8_hung.data.toList.drop 24 = dktX8_hung_1 := dk_seg dksX8_hung_0 24 rfl rfl
theorem dX8_hung_0 : decode cX8_hung 0 = .ok (.iconst 0, 1) := dk_3 (dk_at dksX8_hung_0 0 rfl rfl)
theorem dX8_hung_1 : decode cX8_hung 1 = .ok (.istore_n 1, 1) := dk_60 (dk_at dksX8_hung_0 1 rfl rfl)
theorem dX8_hung_2 : decode cX8_hung 2 = .ok (.iconst 0, 1) := dk_3 (dk_at dksX8_hung_0 2 rfl rfl)
theorem dX8_hung_3 : decode cX8_hung 3 = .ok (.istore_n 2, 1) := dk_61 (dk_at dksX8_hung_0 3 rfl rfl)
theorem dX8_hung_4 : decode cX8_hung 4 = .ok (.iload_n 2, 1) := dk_28 (dk_at dksX8_hung_0 4 rfl rfl)
theorem dX8_hung_5 : decode cX8_hung 5 = .ok (.aload_n 0, 1) := dk_42 (dk_at dksX8_hung_0 5 rfl rfl)
theorem dX8_hung_6 : decode cX8_hung 6 = .ok (.getfield 7, 3) := dk_180 0 7 (dk_at dksX8_hung_0 6 rfl rfl)
theorem dX8_hung_9 : decode cX8_hung 9 = .ok (.iconst 4, 1) := dk_7 (dk_at dksX8_hung_0 9 rfl rfl)
theorem dX8_hung_10 : decode cX8_hung 10 = .ok (.iaload, 1) := dk_46 (dk_at dksX8_hung_0 10 rfl rfl)
theorem dX8_hung_11 : decode cX8_hung 11 = .ok (.if_icmp .ge 31, 3) := dk_162 0 31 (dk_at dksX8_hung_0 11 rfl rfl)
theorem dX8_hung_14 : decode cX8_hung 14 = .ok (.iload_n 1, 1) := dk_27 (dk_at dksX8_hung_0 14 rfl rfl)
theorem dX8_hung_15 : decode cX8_hung 15 = .ok (.aload_n 0, 1) := dk_42 (dk_at dksX8_hung_0 15 rfl rfl)
theorem dX8_hung_16 : decode cX8_hung 16 = .ok (.getfield 7, 3) := dk_180 0 7 (dk_at dksX8_hung_0 16 rfl rfl)
theorem dX8_hung_19 : decode cX8_hung 19 = .ok (.sipush 272, 3) := dk_17 1 16 (dk_at dksX8_hung_0 19 rfl rfl)
theorem dX8_hung_22 : decode cX8_hung 22 = .ok (.iload_n 2, 1) := dk_28 (dk_at dksX8_hung_0 22 rfl rfl)
theorem dX8_hung_23 : decode cX8_hung 23 = .ok (.iadd, 1) := dk_96 (dk_at dksX8_hung_0 23 rfl rfl)
theorem dX8_hung_24 : decode cX8_hung 24 = .ok (.iaload, 1) := dk_46 (dk_at dksX8_hung_1 0 rfl rfl)
theorem dX8_hung_25 : decode cX8_hung 25 = .ok (.iconst (-1), 1) := dk_2 (dk_at dksX8_hung_1 1 rfl rfl)
theorem dX8_hung_26 : decode cX8_hung 26 = .ok (.if_icmp .ne 7, 3) := dk_160 0 7 (dk_at dksX8_hung_1 2 rfl rfl)
theorem dX8_hung_29 : decode cX8_hung 29 = .ok (.iconst 0, 1) := dk_3 (dk_at dksX8_hung_1 5 rfl rfl)
theorem dX8_hung_30 : decode cX8_hung 30 = .ok (.goto 4, 3) := dk_167 0 4 (dk_at dksX8_hung_1 6 rfl rfl)
theorem dX8_hung_33 : decode cX8_hung 33 = .ok (.iconst 1, 1) := dk_4 (dk_at dksX8_hung_1 9 rfl rfl)
theorem dX8_hung_34 : decode cX8_hung 34 = .ok (.iadd, 1) := dk_96 (dk_at dksX8_hung_1 10 rfl rfl)
theorem dX8_hung_35 : decode cX8_hung 35 = .ok (.istore_n 1, 1) := dk_60 (dk_at dksX8_hung_1 11 rfl rfl)
theorem dX8_hung_36 : decode cX8_hung 36 = .ok (.iinc 2 1, 3) := dk_132 2 1 (dk_at dksX8_hung_1 12 rfl rfl)
theorem dX8_hung_39 : decode cX8_hung 39 = .ok (.goto (-35), 3) := dk_167 255 221 (dk_at dksX8_hung_1 15 rfl rfl)
theorem dX8_hung_42 : decode cX8_hung 42 = .ok (.iload_n 1, 1) := dk_27 (dk_at dksX8_hung_1 18 rfl rfl)
theorem dX8_hung_43 : decode cX8_hung 43 = .ok (.ireturn, 1) := dk_172 (dk_at dksX8_hung_1 19 rfl rfl)
abbrev cX8_freeHook : ByteArray := prog_21_method_74_code
def yX8_freeHook : MethodName := ⟨RX8, "freeHook", "()I"⟩
def dkwX8_freeHook_1 : List UInt8 := [160, 0, 5, 27, 172, 132, 1, 1, 167, 255, 227, 2, 172]
abbrev dktX8_freeHook_1 : List UInt8 := dkwX8_freeHook_1 ++ []
def dkwX8_freeHook_0 : List UInt8 := [3, 60, 27, 42, 180, 0, 7, 7, 46, 162, 0, 25, 42, 180, 0, 7, 17, 1, 16, 27, 96, 46, 2]
abbrev dktX8_freeHook_0 : List UInt8 := dkwX8_freeHook_0 ++ dktX8_freeHook_1
theorem dksX8_freeHook_0 : cX8_freeHook.data.toList.drop 0 = dktX8_freeHook_0 := by decide +kernel
theorem dksX8_freeHook_1 : cX8_freeHook.data.toList.drop 23 = dktX8_freeHook_1 := dk_seg dksX8_freeHook_0 23 rfl rfl
theorem dX8_freeHook_0 : decode cX8_freeHook 0 = .ok (.iconst 0, 1) := dk_3 (dk_at dksX8_freeHook_0 0 rfl rfl)
theorem dX8_freeHook_1 : decode cX8_freeHook 1 = .ok (.istore_n 1, 1) := dk_60 (dk_at dksX8_freeHook_0 1 rfl rfl)
theorem dX8_freeHook_2 : decode cX8_freeHook 2 = .ok (.iload_n 1, 1) := dk_27 (dk_at dksX8_freeHook_0 2 rfl rfl)
theorem dX8_freeHook_3 : decode cX8_freeHook 3 = .ok (.aload_n 0, 1) := dk_42 (dk_at dksX8_freeHook_0 3 rfl rfl)
theorem dX8_freeHook_4 : decode cX8_freeHook 4 = .ok (.getfield 7, 3) := dk_180 0 7 (dk_at dksX8_freeHook_0 4 rfl rfl)
theorem dX8_freeHook_7 : decode cX8_freeHook 7 = .ok (.iconst 4, 1) := dk_7 (dk_at dksX8_freeHook_0 7 rfl rfl)
theorem dX8_freeHook_8 : decode cX8_freeHook 8 = .ok (.iaload, 1) := dk_46 (dk_at dksX8_freeHook_0 8 rfl rfl)
theorem dX8_freeHook_9 : decode cX8_freeHook 9 = .ok (.if_icmp .ge 25, 3) := dk_162 0 25 (dk_at dksX8_freeHook_0 9 rfl rfl)
theorem dX8_freeHook_12 : decode cX8_freeHook 12 = .ok (.aload_n 0, 1) := dk_42 (dk_at dksX8_freeHook_0 12 rfl rfl)
theorem dX8_freeHook_13 : decode cX8_freeHook 13 = .ok (.getfield 7, 3) := dk_180 0 7 (dk_at dksX8_freeHook_0 13 rfl rfl)
theorem dX8_freeHook_16 : decode cX8_freeHook 16 = .ok (.sipush 272, 3) := dk_17 1 16 (dk_at dksX8_freeHook_0 16 rfl rfl)
theorem dX8_freeHook_19 : decode cX8_freeHook 19 = .ok (.iload_n 1, 1) := dk_27 (dk_at dksX8_freeHook_0 19 rfl rfl)
theorem dX8_freeHook_20 : decode cX8_freeHook 20 = .ok (.iadd, 1) := dk_96 (dk_at dksX8_freeHook_0 20 rfl rfl)
theorem dX8_freeHook_21 : decode cX8_freeHook 21 = .ok (.iaload, 1) := dk_46 (dk_at dksX8_freeHook_0 21 rfl rfl)
theorem dX8_freeHook_22 : decode cX8_freeHook 22 = .ok (.iconst (-1), 1) := dk_2 (dk_at dksX8_freeHook_0 22 rfl rfl)
theorem dX8_freeHook_23 : decode cX8_freeHook 23 = .ok (.if_icmp .ne 5, 3) := dk_160 0 5 (dk_at dksX8_freeHook_1 0 rfl rfl)
theorem dX8_freeHook_26 : decode cX8_freeHook 26 = .ok (.iload_n 1, 1) := dk_27 (dk_at dksX8_freeHook_1 3 rfl rfl)
theorem dX8_freeHook_27 : decode cX8_freeHook 27 = .ok (.ireturn, 1) := dk_172 (dk_at dksX8_freeHook_1 4 rfl rfl)
theorem dX8_freeHook_28 : decode cX8_freeHook 28 = .ok (.iinc 1 1, 3) := dk_132 1 1 (dk_at dksX8_freeHook_1 5 rfl rfl)
theorem dX8_freeHook_31 : decode cX8_freeHook 31 = .ok (.goto (-29), 3) := dk_167 255 227 (dk_at dksX8_freeHook_1 8 rfl rfl)
theorem dX8_freeHook_34 : decode cX8_freeHook 34 = .ok (.iconst (-1), 1) := dk_2 (dk_at dksX8_freeHook_1 11 rfl rfl)
theorem dX8_freeHook_35 : decode cX8_freeHook 35 = .ok (.ireturn, 1) := dk_172 (dk_at dksX8_freeHook_1 12 rfl rfl)
abbrev cX8_draw : ByteArray := prog_21_method_60_code
def yX8_draw : MethodName := ⟨RX8, "draw", "(I)I"⟩
def dkwX8_draw_1 : List UInt8 := [180, 0, 7, 16, 9, 46, 16, 16, 124, 17, 127, 255, 126, 27, 112, 172]
abbrev dktX8_draw_1 : List UInt8 := dkwX8_draw_1 ++ []
def dkwX8_draw_0 : List UInt8 := [42, 180, 0, 7, 16, 9, 19, 1, 15, 42, 180, 0, 7, 16, 9, 46, 104, 17, 48, 57, 96, 79, 42]
abbrev dktX8_draw_0 : List UInt8 := dkwX8_draw_0 ++ dktX8_draw_1
theorem dksX8_draw_0 : cX8_draw.data.toList.drop 0 = dktX8_draw_0 := by decide +kernel
theorem dksX8_draw_1 : cX8_draw.data.toList.drop 23 = dktX8_draw_1 := dk_seg dksX8_draw_0 23 rfl rfl
theorem dX8_draw_0 : decode cX8_draw 0 = .ok (.aload_n 0, 1) := dk_42 (dk_at dksX8_draw_0 0 rfl rfl)
theorem dX8_draw_1 : decode cX8_draw 1 = .ok (.getfield 7, 3) := dk_180 0 7 (dk_at dksX8_draw_0 1 rfl rfl)
theorem dX8_draw_4 : decode cX8_draw 4 = .ok (.bipush 9, 2) := dk_16 9 (dk_at dksX8_draw_0 4 rfl rfl)
theorem dX8_draw_6 : decode cX8_draw 6 = .ok (.ldc_w 271, 3) := dk_19 1 15 (dk_at dksX8_draw_0 6 rfl rfl)
theorem dX8_draw_9 : decode cX8_draw 9 = .ok (.aload_n 0, 1) := dk_42 (dk_at dksX8_draw_0 9 rfl rfl)
theorem dX8_draw_10 : decode cX8_draw 10 = .ok (.getfield 7, 3) := dk_180 0 7 (dk_at dksX8_draw_0 10 rfl rfl)
theorem dX8_draw_13 : decode cX8_draw 13 = .ok (.bipush 9, 2) := dk_16 9 (dk_at dksX8_draw_0 13 rfl rfl)
theorem dX8_draw_15 : decode cX8_draw 15 = .ok (.iaload, 1) := dk_46 (dk_at dksX8_draw_0 15 rfl rfl)
theorem dX8_draw_16 : decode cX8_draw 16 = .ok (.imul, 1) := dk_104 (dk_at dksX8_draw_0 16 rfl rfl)
theorem dX8_draw_17 : decode cX8_draw 17 = .ok (.sipush 12345, 3) := dk_17 48 57 (dk_at dksX8_draw_0 17 rfl rfl)
theorem dX8_draw_20 : decode cX8_draw 20 = .ok (.iadd, 1) := dk_96 (dk_at dksX8_draw_0 20 rfl rfl)
theorem dX8_draw_21 : decode cX8_draw 21 = .ok (.iastore, 1) := dk_79 (dk_at dksX8_draw_0 21 rfl rfl)
theorem dX8_draw_22 : decode cX8_draw 22 = .ok (.aload_n 0, 1) := dk_42 (dk_at dksX8_draw_0 22 rfl rfl)
theorem dX8_draw_23 : decode cX8_draw 23 = .ok (.getfield 7, 3) := dk_180 0 7 (dk_at dksX8_draw_1 0 rfl rfl)
theorem dX8_draw_26 : decode cX8_draw 26 = .ok (.bipush 9, 2) := dk_16 9 (dk_at dksX8_draw_1 3 rfl rfl)
theorem dX8_draw_28 : decode cX8_draw 28 = .ok (.iaload, 1) := dk_46 (dk_at dksX8_draw_1 5 rfl rfl)
theorem dX8_draw_29 : decode cX8_draw 29 = .ok (.bipush 16, 2) := dk_16 16 (dk_at dksX8_draw_1 6 rfl rfl)
theorem dX8_draw_31 : decode cX8_draw 31 = .ok (.iushr, 1) := dk_124 (dk_at dksX8_draw_1 8 rfl rfl)
theorem dX8_draw_32 : decode cX8_draw 32 = .ok (.sipush 32767, 3) := dk_17 127 255 (dk_at dksX8_draw_1 9 rfl rfl)
theorem dX8_draw_35 : decode cX8_draw 35 = .ok (.iand, 1) := dk_126 (dk_at dksX8_draw_1 12 rfl rfl)
theorem dX8_draw_36 : decode cX8_draw 36 = .ok (.iload_n 1, 1) := dk_27 (dk_at dksX8_draw_1 13 rfl rfl)
theorem dX8_draw_37 : decode cX8_draw 37 = .ok (.irem, 1) := dk_112 (dk_at dksX8_draw_1 14 rfl rfl)
theorem dX8_draw_38 : decode cX8_draw 38 = .ok (.ireturn, 1) := dk_172 (dk_at dksX8_draw_1 15 rfl rfl)
abbrev cX8_holders : ByteArray := prog_21_method_76_code
def yX8_holders : MethodName := ⟨RX8, "holders", "()I"⟩
def dkwX8_holders_1 : List UInt8 := [160, 0, 7, 3, 167, 0, 6, 4, 28, 120, 128, 60, 132, 2, 1, 167, 255, 223, 27, 172]
abbrev dktX8_holders_1 : List UInt8 := dkwX8_holders_1 ++ []
def dkwX8_holders_0 : List UInt8 := [3, 60, 3, 61, 28, 42, 180, 0, 7, 6, 46, 162, 0, 29, 27, 42, 28, 6, 182, 0, 57, 2]
abbrev dktX8_holders_0 : List UInt8 := dkwX8_holders_0 ++ dktX8_holders_1
theorem dksX8_holders_0 : cX8_holders.data.toList.drop 0 = dktX8_holders_0 := by decide +kernel
theorem dksX8_holders_1 : cX8_holders.data.toList.drop 22 = dktX8_holders_1 := dk_seg dksX8_holders_0 22 rfl rfl
theorem dX8_holders_0 : decode cX8_holders 0 = .ok (.iconst 0, 1) := dk_3 (dk_at dksX8_holders_0 0 rfl rfl)
theorem dX8_holders_1 : decode cX8_holders 1 = .ok (.istore_n 1, 1) := dk_60 (dk_at dksX8_holders_0 1 rfl rfl)
theorem dX8_holders_2 : decode cX8_holders 2 = .ok (.iconst 0, 1) := dk_3 (dk_at dksX8_holders_0 2 rfl rfl)
theorem dX8_holders_3 : decode cX8_holders 3 = .ok (.istore_n 2, 1) := dk_61 (dk_at dksX8_holders_0 3 rfl rfl)
theorem dX8_holders_4 : decode cX8_holders 4 = .ok (.iload_n 2, 1) := dk_28 (dk_at dksX8_holders_0 4 rfl rfl)
theorem dX8_holders_5 : decode cX8_holders 5 = .ok (.aload_n 0, 1) := dk_42 (dk_at dksX8_holders_0 5 rfl rfl)
theorem dX8_holders_6 : decode cX8_holders 6 = .ok (.getfield 7, 3) := dk_180 0 7 (dk_at dksX8_holders_0 6 rfl rfl)
theorem dX8_holders_9 : decode cX8_holders 9 = .ok (.iconst 3, 1) := dk_6 (dk_at dksX8_holders_0 9 rfl rfl)
theorem dX8_holders_10 : decode cX8_holders 10 = .ok (.iaload, 1) := dk_46 (dk_at dksX8_holders_0 10 rfl rfl)
theorem dX8_holders_11 : decode cX8_holders 11 = .ok (.if_icmp .ge 29, 3) := dk_162 0 29 (dk_at dksX8_holders_0 11 rfl rfl)
theorem dX8_holders_14 : decode cX8_holders 14 = .ok (.iload_n 1, 1) := dk_27 (dk_at dksX8_holders_0 14 rfl rfl)
theorem dX8_holders_15 : decode cX8_holders 15 = .ok (.aload_n 0, 1) := dk_42 (dk_at dksX8_holders_0 15 rfl rfl)
theorem dX8_holders_16 : decode cX8_holders 16 = .ok (.iload_n 2, 1) := dk_28 (dk_at dksX8_holders_0 16 rfl rfl)
theorem dX8_holders_17 : decode cX8_holders 17 = .ok (.iconst 3, 1) := dk_6 (dk_at dksX8_holders_0 17 rfl rfl)
theorem dX8_holders_18 : decode cX8_holders 18 = .ok (.invokevirtual 57, 3) := dk_182 0 57 (dk_at dksX8_holders_0 18 rfl rfl)
theorem dX8_holders_21 : decode cX8_holders 21 = .ok (.iconst (-1), 1) := dk_2 (dk_at dksX8_holders_0 21 rfl rfl)
theorem dX8_holders_22 : decode cX8_holders 22 = .ok (.if_icmp .ne 7, 3) := dk_160 0 7 (dk_at dksX8_holders_1 0 rfl rfl)
theorem dX8_holders_25 : decode cX8_holders 25 = .ok (.iconst 0, 1) := dk_3 (dk_at dksX8_holders_1 3 rfl rfl)
theorem dX8_holders_26 : decode cX8_holders 26 = .ok (.goto 6, 3) := dk_167 0 6 (dk_at dksX8_holders_1 4 rfl rfl)
theorem dX8_holders_29 : decode cX8_holders 29 = .ok (.iconst 1, 1) := dk_4 (dk_at dksX8_holders_1 7 rfl rfl)
theorem dX8_holders_30 : decode cX8_holders 30 = .ok (.iload_n 2, 1) := dk_28 (dk_at dksX8_holders_1 8 rfl rfl)
theorem dX8_holders_31 : decode cX8_holders 31 = .ok (.ishl, 1) := dk_120 (dk_at dksX8_holders_1 9 rfl rfl)
theorem dX8_holders_32 : decode cX8_holders 32 = .ok (.ior, 1) := dk_128 (dk_at dksX8_holders_1 10 rfl rfl)
theorem dX8_holders_33 : decode cX8_holders 33 = .ok (.istore_n 1, 1) := dk_60 (dk_at dksX8_holders_1 11 rfl rfl)
theorem dX8_holders_34 : decode cX8_holders 34 = .ok (.iinc 2 1, 3) := dk_132 2 1 (dk_at dksX8_holders_1 12 rfl rfl)
theorem dX8_holders_37 : decode cX8_holders 37 = .ok (.goto (-33), 3) := dk_167 255 223 (dk_at dksX8_holders_1 15 rfl rfl)
theorem dX8_holders_40 : decode cX8_holders 40 = .ok (.iload_n 1, 1) := dk_27 (dk_at dksX8_holders_1 18 rfl rfl)
theorem dX8_holders_41 : decode cX8_holders 41 = .ok (.ireturn, 1) := dk_172 (dk_at dksX8_holders_1 19 rfl rfl)
abbrev cX8_holder : ByteArray := prog_21_method_75_code
def yX8_holder : MethodName := ⟨RX8, "holder", "(II)I"⟩
def dkwX8_holder_2 : List UInt8 := [132, 4, 1, 167, 255, 212, 2, 172]
abbrev dktX8_holder_2 : List UInt8 := dkwX8_holder_2 ++ []
def dkwX8_holder_1 : List UInt8 := [159, 0, 22, 21, 4, 28, 160, 0, 6, 167, 0, 13, 29, 154, 0, 6, 21, 4, 172, 132, 3, 255]
abbrev dktX8_holder_1 : List UInt8 := dkwX8_holder_1 ++ dktX8_holder_2
def dkwX8_holder_0 : List UInt8 := [27, 62, 3, 54, 4, 21, 4, 42, 180, 0, 7, 6, 46, 162, 0, 39, 42, 21, 4, 6, 182, 0, 57, 2]
abbrev dktX8_holder_0 : List UInt8 := dkwX8_holder_0 ++ dktX8_holder_1
theorem dksX8_holder_0 : cX8_holder.data.toList.drop 0 = dktX8_holder_0 := by decide +kernel
theorem dksX8_holder_1 : cX8_holder.data.toList.drop 24 = dktX8_holder_1 := dk_seg dksX8_holder_0 24 rfl rfl
theorem dksX8_holder_2 : cX8_holder.data.toList.drop 46 = dktX8_holder_2 := dk_seg dksX8_holder_1 22 rfl rfl
theorem dX8_holder_0 : decode cX8_holder 0 = .ok (.iload_n 1, 1) := dk_27 (dk_at dksX8_holder_0 0 rfl rfl)
theorem dX8_holder_1 : decode cX8_holder 1 = .ok (.istore_n 3, 1) := dk_62 (dk_at dksX8_holder_0 1 rfl rfl)
theorem dX8_holder_2 : decode cX8_holder 2 = .ok (.iconst 0, 1) := dk_3 (dk_at dksX8_holder_0 2 rfl rfl)
theorem dX8_holder_3 : decode cX8_holder 3 = .ok (.istore 4, 2) := dk_54 4 (dk_at dksX8_holder_0 3 rfl rfl)
theorem dX8_holder_5 : decode cX8_holder 5 = .ok (.iload 4, 2) := dk_21 4 (dk_at dksX8_holder_0 5 rfl rfl)
theorem dX8_holder_7 : decode cX8_holder 7 = .ok (.aload_n 0, 1) := dk_42 (dk_at dksX8_holder_0 7 rfl rfl)
theorem dX8_holder_8 : decode cX8_holder 8 = .ok (.getfield 7, 3) := dk_180 0 7 (dk_at dksX8_holder_0 8 rfl rfl)
theorem dX8_holder_11 : decode cX8_holder 11 = .ok (.iconst 3, 1) := dk_6 (dk_at dksX8_holder_0 11 rfl rfl)
theorem dX8_holder_12 : decode cX8_holder 12 = .ok (.iaload, 1) := dk_46 (dk_at dksX8_holder_0 12 rfl rfl)
theorem dX8_holder_13 : decode cX8_holder 13 = .ok (.if_icmp .ge 39, 3) := dk_162 0 39 (dk_at dksX8_holder_0 13 rfl rfl)
theorem dX8_holder_16 : decode cX8_holder 16 = .ok (.aload_n 0, 1) := dk_42 (dk_at dksX8_holder_0 16 rfl rfl)
theorem dX8_holder_17 : decode cX8_holder 17 = .ok (.iload 4, 2) := dk_21 4 (dk_at dksX8_holder_0 17 rfl rfl)
theorem dX8_holder_19 : decode cX8_holder 19 = .ok (.iconst 3, 1) := dk_6 (dk_at dksX8_holder_0 19 rfl rfl)
theorem dX8_holder_20 : decode cX8_holder 20 = .ok (.invokevirtual 57, 3) := dk_182 0 57 (dk_at dksX8_holder_0 20 rfl rfl)
theorem dX8_holder_23 : decode cX8_holder 23 = .ok (.iconst (-1), 1) := dk_2 (dk_at dksX8_holder_0 23 rfl rfl)
theorem dX8_holder_24 : decode cX8_holder 24 = .ok (.if_icmp .eq 22, 3) := dk_159 0 22 (dk_at dksX8_holder_1 0 rfl rfl)
theorem dX8_holder_27 : decode cX8_holder 27 = .ok (.iload 4, 2) := dk_21 4 (dk_at dksX8_holder_1 3 rfl rfl)
theorem dX8_holder_29 : decode cX8_holder 29 = .ok (.iload_n 2, 1) := dk_28 (dk_at dksX8_holder_1 5 rfl rfl)
theorem dX8_holder_30 : decode cX8_holder 30 = .ok (.if_icmp .ne 6, 3) := dk_160 0 6 (dk_at dksX8_holder_1 6 rfl rfl)
theorem dX8_holder_33 : decode cX8_holder 33 = .ok (.goto 13, 3) := dk_167 0 13 (dk_at dksX8_holder_1 9 rfl rfl)
theorem dX8_holder_36 : decode cX8_holder 36 = .ok (.iload_n 3, 1) := dk_29 (dk_at dksX8_holder_1 12 rfl rfl)
theorem dX8_holder_37 : decode cX8_holder 37 = .ok (.ifCond .ne 6, 3) := dk_154 0 6 (dk_at dksX8_holder_1 13 rfl rfl)
theorem dX8_holder_40 : decode cX8_holder 40 = .ok (.iload 4, 2) := dk_21 4 (dk_at dksX8_holder_1 16 rfl rfl)
theorem dX8_holder_42 : decode cX8_holder 42 = .ok (.ireturn, 1) := dk_172 (dk_at dksX8_holder_1 18 rfl rfl)
theorem dX8_holder_43 : decode cX8_holder 43 = .ok (.iinc 3 (-1), 3) := dk_132 3 255 (dk_at dksX8_holder_1 19 rfl rfl)
theorem dX8_holder_46 : decode cX8_holder 46 = .ok (.iinc 4 1, 3) := dk_132 4 1 (dk_at dksX8_holder_2 0 rfl rfl)
theorem dX8_holder_49 : decode cX8_holder 49 = .ok (.goto (-44), 3) := dk_167 255 212 (dk_at dksX8_holder_2 3 rfl rfl)
theorem dX8_holder_52 : decode cX8_holder 52 = .ok (.iconst (-1), 1) := dk_2 (dk_at dksX8_holder_2 6 rfl rfl)
theorem dX8_holder_53 : decode cX8_holder 53 = .ok (.ireturn, 1) := dk_172 (dk_at dksX8_holder_2 7 rfl rfl)
abbrev cX8_robs : ByteArray := prog_21_method_77_code
def yX8_robs : MethodName := ⟨RX8, "robs", "()V"⟩
def dkwX8_robs_3 : List UInt8 := [132, 2, 1, 167, 255, 196, 177]
abbrev dktX8_robs_3 : List UInt8 := dkwX8_robs_3 ++ []
def dkwX8_robs_2 : List UInt8 := [3, 42, 29, 3, 182, 0, 57, 42, 29, 3, 182, 0, 57, 4, 100, 126, 182, 0, 100, 132, 1, 255]
abbrev dktX8_robs_2 : List UInt8 := dkwX8_robs_2 ++ dktX8_robs_3
def dkwX8_robs_1 : List UInt8 := [180, 0, 7, 17, 1, 16, 28, 96, 46, 62, 29, 2, 160, 0, 6, 167, 0, 31, 27, 154, 0, 24, 42, 29]
abbrev dktX8_robs_1 : List UInt8 := dkwX8_robs_1 ++ dktX8_robs_2
def dkwX8_robs_0 : List UInt8 := [42, 42, 182, 0, 245, 182, 1, 38, 60, 3, 61, 28, 42, 180, 0, 7, 7, 46, 162, 0, 56, 42]
abbrev dktX8_robs_0 : List UInt8 := dkwX8_robs_0 ++ dktX8_robs_1
theorem dksX8_robs_0 : cX8_robs.data.toList.drop 0 = dktX8_robs_0 := by decide +kernel
theorem dksX8_robs_1 : cX8_robs.data.toList.drop 22 = dktX8_robs_1 := dk_seg dksX8_robs_0 22 rfl rfl
theorem dksX8_robs_2 : cX8_robs.data.toList.drop 46 = dktX8_robs_2 := dk_seg dksX8_robs_1 24 rfl rfl
theorem dksX8_robs_3 : cX8_robs.data.toList.drop 68 = dktX8_robs_3 := dk_seg dksX8_robs_2 22 rfl rfl
theorem dX8_robs_0 : decode cX8_robs 0 = .ok (.aload_n 0, 1) := dk_42 (dk_at dksX8_robs_0 0 rfl rfl)
theorem dX8_robs_1 : decode cX8_robs 1 = .ok (.aload_n 0, 1) := dk_42 (dk_at dksX8_robs_0 1 rfl rfl)
theorem dX8_robs_2 : decode cX8_robs 2 = .ok (.invokevirtual 245, 3) := dk_182 0 245 (dk_at dksX8_robs_0 2 rfl rfl)
theorem dX8_robs_5 : decode cX8_robs 5 = .ok (.invokevirtual 294, 3) := dk_182 1 38 (dk_at dksX8_robs_0 5 rfl rfl)
theorem dX8_robs_8 : decode cX8_robs 8 = .ok (.istore_n 1, 1) := dk_60 (dk_at dksX8_robs_0 8 rfl rfl)
theorem dX8_robs_9 : decode cX8_robs 9 = .ok (.iconst 0, 1) := dk_3 (dk_at dksX8_robs_0 9 rfl rfl)
theorem dX8_robs_10 : decode cX8_robs 10 = .ok (.istore_n 2, 1) := dk_61 (dk_at dksX8_robs_0 10 rfl rfl)
theorem dX8_robs_11 : decode cX8_robs 11 = .ok (.iload_n 2, 1) := dk_28 (dk_at dksX8_robs_0 11 rfl rfl)
theorem dX8_robs_12 : decode cX8_robs 12 = .ok (.aload_n 0, 1) := dk_42 (dk_at dksX8_robs_0 12 rfl rfl)
theorem dX8_robs_13 : decode cX8_robs 13 = .ok (.getfield 7, 3) := dk_180 0 7 (dk_at dksX8_robs_0 13 rfl rfl)
theorem dX8_robs_16 : decode cX8_robs 16 = .ok (.iconst 4, 1) := dk_7 (dk_at dksX8_robs_0 16 rfl rfl)
theorem dX8_robs_17 : decode cX8_robs 17 = .ok (.iaload, 1) := dk_46 (dk_at dksX8_robs_0 17 rfl rfl)
theorem dX8_robs_18 : decode cX8_robs 18 = .ok (.if_icmp .ge 56, 3) := dk_162 0 56 (dk_at dksX8_robs_0 18 rfl rfl)
theorem dX8_robs_21 : decode cX8_robs 21 = .ok (.aload_n 0, 1) := dk_42 (dk_at dksX8_robs_0 21 rfl rfl)
theorem dX8_robs_22 : decode cX8_robs 22 = .ok (.getfield 7, 3) := dk_180 0 7 (dk_at dksX8_robs_1 0 rfl rfl)
theorem dX8_robs_25 : decode cX8_robs 25 = .ok (.sipush 272, 3) := dk_17 1 16 (dk_at dksX8_robs_1 3 rfl rfl)
theorem dX8_robs_28 : decode cX8_robs 28 = .ok (.iload_n 2, 1) := dk_28 (dk_at dksX8_robs_1 6 rfl rfl)
theorem dX8_robs_29 : decode cX8_robs 29 = .ok (.iadd, 1) := dk_96 (dk_at dksX8_robs_1 7 rfl rfl)
theorem dX8_robs_30 : decode cX8_robs 30 = .ok (.iaload, 1) := dk_46 (dk_at dksX8_robs_1 8 rfl rfl)
theorem dX8_robs_31 : decode cX8_robs 31 = .ok (.istore_n 3, 1) := dk_62 (dk_at dksX8_robs_1 9 rfl rfl)
theorem dX8_robs_32 : decode cX8_robs 32 = .ok (.iload_n 3, 1) := dk_29 (dk_at dksX8_robs_1 10 rfl rfl)
theorem dX8_robs_33 : decode cX8_robs 33 = .ok (.iconst (-1), 1) := dk_2 (dk_at dksX8_robs_1 11 rfl rfl)
theorem dX8_robs_34 : decode cX8_robs 34 = .ok (.if_icmp .ne 6, 3) := dk_160 0 6 (dk_at dksX8_robs_1 12 rfl rfl)
theorem dX8_robs_37 : decode cX8_robs 37 = .ok (.goto 31, 3) := dk_167 0 31 (dk_at dksX8_robs_1 15 rfl rfl)
theorem dX8_robs_40 : decode cX8_robs 40 = .ok (.iload_n 1, 1) := dk_27 (dk_at dksX8_robs_1 18 rfl rfl)
theorem dX8_robs_41 : decode cX8_robs 41 = .ok (.ifCond .ne 24, 3) := dk_154 0 24 (dk_at dksX8_robs_1 19 rfl rfl)
theorem dX8_robs_44 : decode cX8_robs 44 = .ok (.aload_n 0, 1) := dk_42 (dk_at dksX8_robs_1 22 rfl rfl)
theorem dX8_robs_45 : decode cX8_robs 45 = .ok (.iload_n 3, 1) := dk_29 (dk_at dksX8_robs_1 23 rfl rfl)
theorem dX8_robs_46 : decode cX8_robs 46 = .ok (.iconst 0, 1) := dk_3 (dk_at dksX8_robs_2 0 rfl rfl)
theorem dX8_robs_47 : decode cX8_robs 47 = .ok (.aload_n 0, 1) := dk_42 (dk_at dksX8_robs_2 1 rfl rfl)
theorem dX8_robs_48 : decode cX8_robs 48 = .ok (.iload_n 3, 1) := dk_29 (dk_at dksX8_robs_2 2 rfl rfl)
theorem dX8_robs_49 : decode cX8_robs 49 = .ok (.iconst 0, 1) := dk_3 (dk_at dksX8_robs_2 3 rfl rfl)
theorem dX8_robs_50 : decode cX8_robs 50 = .ok (.invokevirtual 57, 3) := dk_182 0 57 (dk_at dksX8_robs_2 4 rfl rfl)
theorem dX8_robs_53 : decode cX8_robs 53 = .ok (.aload_n 0, 1) := dk_42 (dk_at dksX8_robs_2 7 rfl rfl)
theorem dX8_robs_54 : decode cX8_robs 54 = .ok (.iload_n 3, 1) := dk_29 (dk_at dksX8_robs_2 8 rfl rfl)
theorem dX8_robs_55 : decode cX8_robs 55 = .ok (.iconst 0, 1) := dk_3 (dk_at dksX8_robs_2 9 rfl rfl)
theorem dX8_robs_56 : decode cX8_robs 56 = .ok (.invokevirtual 57, 3) := dk_182 0 57 (dk_at dksX8_robs_2 10 rfl rfl)
theorem dX8_robs_59 : decode cX8_robs 59 = .ok (.iconst 1, 1) := dk_4 (dk_at dksX8_robs_2 13 rfl rfl)
theorem dX8_robs_60 : decode cX8_robs 60 = .ok (.isub, 1) := dk_100 (dk_at dksX8_robs_2 14 rfl rfl)
theorem dX8_robs_61 : decode cX8_robs 61 = .ok (.iand, 1) := dk_126 (dk_at dksX8_robs_2 15 rfl rfl)
theorem dX8_robs_62 : decode cX8_robs 62 = .ok (.invokevirtual 100, 3) := dk_182 0 100 (dk_at dksX8_robs_2 16 rfl rfl)
theorem dX8_robs_65 : decode cX8_robs 65 = .ok (.iinc 1 (-1), 3) := dk_132 1 255 (dk_at dksX8_robs_2 19 rfl rfl)
theorem dX8_robs_68 : decode cX8_robs 68 = .ok (.iinc 2 1, 3) := dk_132 2 1 (dk_at dksX8_robs_3 0 rfl rfl)
theorem dX8_robs_71 : decode cX8_robs 71 = .ok (.goto (-60), 3) := dk_167 255 196 (dk_at dksX8_robs_3 3 rfl rfl)
theorem dX8_robs_74 : decode cX8_robs 74 = .ok (.return_, 1) := dk_177 (dk_at dksX8_robs_3 6 rfl rfl)
abbrev cX8_wrong_2 : ByteArray := prog_21_method_82_code
def yX8_wrong_2 : MethodName := ⟨RX8, "wrong", "()I"⟩
def dkwX8_wrong_2_0 : List UInt8 := [42, 3, 181, 0, 50, 42, 182, 1, 61, 172]
abbrev dktX8_wrong_2_0 : List UInt8 := dkwX8_wrong_2_0 ++ []
theorem dksX8_wrong_2_0 : cX8_wrong_2.data.toList.drop 0 = dktX8_wrong_2_0 := by decide +kernel
theorem dX8_wrong_2_0 : decode cX8_wrong_2 0 = .ok (.aload_n 0, 1) := dk_42 (dk_at dksX8_wrong_2_0 0 rfl rfl)
theorem dX8_wrong_2_1 : decode cX8_wrong_2 1 = .ok (.iconst 0, 1) := dk_3 (dk_at dksX8_wrong_2_0 1 rfl rfl)
theorem dX8_wrong_2_2 : decode cX8_wrong_2 2 = .ok (.putfield 50, 3) := dk_181 0 50 (dk_at dksX8_wrong_2_0 2 rfl rfl)
theorem dX8_wrong_2_5 : decode cX8_wrong_2 5 = .ok (.aload_n 0, 1) := dk_42 (dk_at dksX8_wrong_2_0 5 rfl rfl)
theorem dX8_wrong_2_6 : decode cX8_wrong_2 6 = .ok (.invokevirtual 317, 3) := dk_182 1 61 (dk_at dksX8_wrong_2_0 6 rfl rfl)
theorem dX8_wrong_2_9 : decode cX8_wrong_2 9 = .ok (.ireturn, 1) := dk_172 (dk_at dksX8_wrong_2_0 9 rfl rfl)
abbrev cX8_wrongs : ByteArray := prog_21_method_81_code
def yX8_wrongs : MethodName := ⟨RX8, "wrongs", "()I"⟩
def dkwX8_wrongs_2 : List UInt8 := [132, 2, 1, 167, 255, 213, 27, 172]
abbrev dktX8_wrongs_2 : List UInt8 := dkwX8_wrongs_2 ++ []
def dkwX8_wrongs_1 : List UInt8 := [159, 0, 19, 42, 28, 5, 182, 0, 57, 28, 159, 0, 9, 4, 28, 120, 167, 0, 4, 3, 128, 60]
abbrev dktX8_wrongs_1 : List UInt8 := dkwX8_wrongs_1 ++ dktX8_wrongs_2
def dkwX8_wrongs_0 : List UInt8 := [3, 60, 3, 61, 28, 42, 180, 0, 7, 6, 46, 162, 0, 39, 27, 42, 28, 5, 182, 0, 57, 2]
abbrev dktX8_wrongs_0 : List UInt8 := dkwX8_wrongs_0 ++ dktX8_wrongs_1
theorem dksX8_wrongs_0 : cX8_wrongs.data.toList.drop 0 = dktX8_wrongs_0 := by decide +kernel
theorem dksX8_wrongs_1 : cX8_wrongs.data.toList.drop 22 = dktX8_wrongs_1 := dk_seg dksX8_wrongs_0 22 rfl rfl
theorem dksX8_wrongs_2 : cX8_wrongs.data.toList.drop 44 = dktX8_wrongs_2 := dk_seg dksX8_wrongs_1 22 rfl rfl
theorem dX8_wrongs_0 : decode cX8_wrongs 0 = .ok (.iconst 0, 1) := dk_3 (dk_at dksX8_wrongs_0 0 rfl rfl)
theorem dX8_wrongs_1 : decode cX8_wrongs 1 = .ok (.istore_n 1, 1) := dk_60 (dk_at dksX8_wrongs_0 1 rfl rfl)
theorem dX8_wrongs_2 : decode cX8_wrongs 2 = .ok (.iconst 0, 1) := dk_3 (dk_at dksX8_wrongs_0 2 rfl rfl)
theorem dX8_wrongs_3 : decode cX8_wrongs 3 = .ok (.istore_n 2, 1) := dk_61 (dk_at dksX8_wrongs_0 3 rfl rfl)
theorem dX8_wrongs_4 : decode cX8_wrongs 4 = .ok (.iload_n 2, 1) := dk_28 (dk_at dksX8_wrongs_0 4 rfl rfl)
theorem dX8_wrongs_5 : decode cX8_wrongs 5 = .ok (.aload_n 0, 1) := dk_42 (dk_at dksX8_wrongs_0 5 rfl rfl)
theorem dX8_wrongs_6 : decode cX8_wrongs 6 = .ok (.getfield 7, 3) := dk_180 0 7 (dk_at dksX8_wrongs_0 6 rfl rfl)
theorem dX8_wrongs_9 : decode cX8_wrongs 9 = .ok (.iconst 3, 1) := dk_6 (dk_at dksX8_wrongs_0 9 rfl rfl)
theorem dX8_wrongs_10 : decode cX8_wrongs 10 = .ok (.iaload, 1) := dk_46 (dk_at dksX8_wrongs_0 10 rfl rfl)
theorem dX8_wrongs_11 : decode cX8_wrongs 11 = .ok (.if_icmp .ge 39, 3) := dk_162 0 39 (dk_at dksX8_wrongs_0 11 rfl rfl)
theorem dX8_wrongs_14 : decode cX8_wrongs 14 = .ok (.iload_n 1, 1) := dk_27 (dk_at dksX8_wrongs_0 14 rfl rfl)
theorem dX8_wrongs_15 : decode cX8_wrongs 15 = .ok (.aload_n 0, 1) := dk_42 (dk_at dksX8_wrongs_0 15 rfl rfl)
theorem dX8_wrongs_16 : decode cX8_wrongs 16 = .ok (.iload_n 2, 1) := dk_28 (dk_at dksX8_wrongs_0 16 rfl rfl)
theorem dX8_wrongs_17 : decode cX8_wrongs 17 = .ok (.iconst 2, 1) := dk_5 (dk_at dksX8_wrongs_0 17 rfl rfl)
theorem dX8_wrongs_18 : decode cX8_wrongs 18 = .ok (.invokevirtual 57, 3) := dk_182 0 57 (dk_at dksX8_wrongs_0 18 rfl rfl)
theorem dX8_wrongs_21 : decode cX8_wrongs 21 = .ok (.iconst (-1), 1) := dk_2 (dk_at dksX8_wrongs_0 21 rfl rfl)
theorem dX8_wrongs_22 : decode cX8_wrongs 22 = .ok (.if_icmp .eq 19, 3) := dk_159 0 19 (dk_at dksX8_wrongs_1 0 rfl rfl)
theorem dX8_wrongs_25 : decode cX8_wrongs 25 = .ok (.aload_n 0, 1) := dk_42 (dk_at dksX8_wrongs_1 3 rfl rfl)
theorem dX8_wrongs_26 : decode cX8_wrongs 26 = .ok (.iload_n 2, 1) := dk_28 (dk_at dksX8_wrongs_1 4 rfl rfl)
theorem dX8_wrongs_27 : decode cX8_wrongs 27 = .ok (.iconst 2, 1) := dk_5 (dk_at dksX8_wrongs_1 5 rfl rfl)
theorem dX8_wrongs_28 : decode cX8_wrongs 28 = .ok (.invokevirtual 57, 3) := dk_182 0 57 (dk_at dksX8_wrongs_1 6 rfl rfl)
theorem dX8_wrongs_31 : decode cX8_wrongs 31 = .ok (.iload_n 2, 1) := dk_28 (dk_at dksX8_wrongs_1 9 rfl rfl)
theorem dX8_wrongs_32 : decode cX8_wrongs 32 = .ok (.if_icmp .eq 9, 3) := dk_159 0 9 (dk_at dksX8_wrongs_1 10 rfl rfl)
theorem dX8_wrongs_35 : decode cX8_wrongs 35 = .ok (.iconst 1, 1) := dk_4 (dk_at dksX8_wrongs_1 13 rfl rfl)
theorem dX8_wrongs_36 : decode cX8_wrongs 36 = .ok (.iload_n 2, 1) := dk_28 (dk_at dksX8_wrongs_1 14 rfl rfl)
theorem dX8_wrongs_37 : decode cX8_wrongs 37 = .ok (.ishl, 1) := dk_120 (dk_at dksX8_wrongs_1 15 rfl rfl)
theorem dX8_wrongs_38 : decode cX8_wrongs 38 = .ok (.goto 4, 3) := dk_167 0 4 (dk_at dksX8_wrongs_1 16 rfl rfl)
theorem dX8_wrongs_41 : decode cX8_wrongs 41 = .ok (.iconst 0, 1) := dk_3 (dk_at dksX8_wrongs_1 19 rfl rfl)
theorem dX8_wrongs_42 : decode cX8_wrongs 42 = .ok (.ior, 1) := dk_128 (dk_at dksX8_wrongs_1 20 rfl rfl)
theorem dX8_wrongs_43 : decode cX8_wrongs 43 = .ok (.istore_n 1, 1) := dk_60 (dk_at dksX8_wrongs_1 21 rfl rfl)
theorem dX8_wrongs_44 : decode cX8_wrongs 44 = .ok (.iinc 2 1, 3) := dk_132 2 1 (dk_at dksX8_wrongs_2 0 rfl rfl)
theorem dX8_wrongs_47 : decode cX8_wrongs 47 = .ok (.goto (-43), 3) := dk_167 255 213 (dk_at dksX8_wrongs_2 3 rfl rfl)
theorem dX8_wrongs_50 : decode cX8_wrongs 50 = .ok (.iload_n 1, 1) := dk_27 (dk_at dksX8_wrongs_2 6 rfl rfl)
theorem dX8_wrongs_51 : decode cX8_wrongs 51 = .ok (.ireturn, 1) := dk_172 (dk_at dksX8_wrongs_2 7 rfl rfl)
abbrev cX8_lost : ByteArray := prog_21_method_84_code
def yX8_lost : MethodName := ⟨RX8, "lost", "()I"⟩
def dkwX8_lost_1 : List UInt8 := [182, 1, 64, 153, 0, 9, 4, 28, 120, 167, 0, 4, 3, 128, 60, 132, 2, 1, 167, 255, 225, 27, 172]
abbrev dktX8_lost_1 : List UInt8 := dkwX8_lost_1 ++ []
def dkwX8_lost_0 : List UInt8 := [42, 3, 181, 0, 50, 3, 60, 3, 61, 28, 42, 180, 0, 7, 6, 46, 162, 0, 27, 27, 42, 28]
abbrev dktX8_lost_0 : List UInt8 := dkwX8_lost_0 ++ dktX8_lost_1
theorem dksX8_lost_0 : cX8_lost.data.toList.drop 0 = dktX8_lost_0 := by decide +kernel
theorem dksX8_lost_1 : cX8_lost.data.toList.drop 22 = dktX8_lost_1 := dk_seg dksX8_lost_0 22 rfl rfl
theorem dX8_lost_0 : decode cX8_lost 0 = .ok (.aload_n 0, 1) := dk_42 (dk_at dksX8_lost_0 0 rfl rfl)
theorem dX8_lost_1 : decode cX8_lost 1 = .ok (.iconst 0, 1) := dk_3 (dk_at dksX8_lost_0 1 rfl rfl)
theorem dX8_lost_2 : decode cX8_lost 2 = .ok (.putfield 50, 3) := dk_181 0 50 (dk_at dksX8_lost_0 2 rfl rfl)
theorem dX8_lost_5 : decode cX8_lost 5 = .ok (.iconst 0, 1) := dk_3 (dk_at dksX8_lost_0 5 rfl rfl)
theorem dX8_lost_6 : decode cX8_lost 6 = .ok (.istore_n 1, 1) := dk_60 (dk_at dksX8_lost_0 6 rfl rfl)
theorem dX8_lost_7 : decode cX8_lost 7 = .ok (.iconst 0, 1) := dk_3 (dk_at dksX8_lost_0 7 rfl rfl)
theorem dX8_lost_8 : decode cX8_lost 8 = .ok (.istore_n 2, 1) := dk_61 (dk_at dksX8_lost_0 8 rfl rfl)
theorem dX8_lost_9 : decode cX8_lost 9 = .ok (.iload_n 2, 1) := dk_28 (dk_at dksX8_lost_0 9 rfl rfl)
theorem dX8_lost_10 : decode cX8_lost 10 = .ok (.aload_n 0, 1) := dk_42 (dk_at dksX8_lost_0 10 rfl rfl)
theorem dX8_lost_11 : decode cX8_lost 11 = .ok (.getfield 7, 3) := dk_180 0 7 (dk_at dksX8_lost_0 11 rfl rfl)
theorem dX8_lost_14 : decode cX8_lost 14 = .ok (.iconst 3, 1) := dk_6 (dk_at dksX8_lost_0 14 rfl rfl)
theorem dX8_lost_15 : decode cX8_lost 15 = .ok (.iaload, 1) := dk_46 (dk_at dksX8_lost_0 15 rfl rfl)
theorem dX8_lost_16 : decode cX8_lost 16 = .ok (.if_icmp .ge 27, 3) := dk_162 0 27 (dk_at dksX8_lost_0 16 rfl rfl)
theorem dX8_lost_19 : decode cX8_lost 19 = .ok (.iload_n 1, 1) := dk_27 (dk_at dksX8_lost_0 19 rfl rfl)
theorem dX8_lost_20 : decode cX8_lost 20 = .ok (.aload_n 0, 1) := dk_42 (dk_at dksX8_lost_0 20 rfl rfl)
theorem dX8_lost_21 : decode cX8_lost 21 = .ok (.iload_n 2, 1) := dk_28 (dk_at dksX8_lost_0 21 rfl rfl)
theorem dX8_lost_22 : decode cX8_lost 22 = .ok (.invokevirtual 320, 3) := dk_182 1 64 (dk_at dksX8_lost_1 0 rfl rfl)
theorem dX8_lost_25 : decode cX8_lost 25 = .ok (.ifCond .eq 9, 3) := dk_153 0 9 (dk_at dksX8_lost_1 3 rfl rfl)
theorem dX8_lost_28 : decode cX8_lost 28 = .ok (.iconst 1, 1) := dk_4 (dk_at dksX8_lost_1 6 rfl rfl)
theorem dX8_lost_29 : decode cX8_lost 29 = .ok (.iload_n 2, 1) := dk_28 (dk_at dksX8_lost_1 7 rfl rfl)
theorem dX8_lost_30 : decode cX8_lost 30 = .ok (.ishl, 1) := dk_120 (dk_at dksX8_lost_1 8 rfl rfl)
theorem dX8_lost_31 : decode cX8_lost 31 = .ok (.goto 4, 3) := dk_167 0 4 (dk_at dksX8_lost_1 9 rfl rfl)
theorem dX8_lost_34 : decode cX8_lost 34 = .ok (.iconst 0, 1) := dk_3 (dk_at dksX8_lost_1 12 rfl rfl)
theorem dX8_lost_35 : decode cX8_lost 35 = .ok (.ior, 1) := dk_128 (dk_at dksX8_lost_1 13 rfl rfl)
theorem dX8_lost_36 : decode cX8_lost 36 = .ok (.istore_n 1, 1) := dk_60 (dk_at dksX8_lost_1 14 rfl rfl)
theorem dX8_lost_37 : decode cX8_lost 37 = .ok (.iinc 2 1, 3) := dk_132 2 1 (dk_at dksX8_lost_1 15 rfl rfl)
theorem dX8_lost_40 : decode cX8_lost 40 = .ok (.goto (-31), 3) := dk_167 255 225 (dk_at dksX8_lost_1 18 rfl rfl)
theorem dX8_lost_43 : decode cX8_lost 43 = .ok (.iload_n 1, 1) := dk_27 (dk_at dksX8_lost_1 21 rfl rfl)
theorem dX8_lost_44 : decode cX8_lost 44 = .ok (.ireturn, 1) := dk_172 (dk_at dksX8_lost_1 22 rfl rfl)
abbrev cX8_isLost : ByteArray := prog_21_method_83_code
def yX8_isLost : MethodName := ⟨RX8, "isLost", "(I)Z"⟩
def dkwX8_isLost_0 : List UInt8 := [42, 27, 182, 0, 247, 2, 160, 0, 16, 42, 27, 182, 1, 0, 2, 160, 0, 7, 4, 167, 0, 4, 3, 172]
abbrev dktX8_isLost_0 : List UInt8 := dkwX8_isLost_0 ++ []
theorem dksX8_isLost_0 : cX8_isLost.data.toList.drop 0 = dktX8_isLost_0 := by decide +kernel
theorem dX8_isLost_0 : decode cX8_isLost 0 = .ok (.aload_n 0, 1) := dk_42 (dk_at dksX8_isLost_0 0 rfl rfl)
theorem dX8_isLost_1 : decode cX8_isLost 1 = .ok (.iload_n 1, 1) := dk_27 (dk_at dksX8_isLost_0 1 rfl rfl)
theorem dX8_isLost_2 : decode cX8_isLost 2 = .ok (.invokevirtual 247, 3) := dk_182 0 247 (dk_at dksX8_isLost_0 2 rfl rfl)
theorem dX8_isLost_5 : decode cX8_isLost 5 = .ok (.iconst (-1), 1) := dk_2 (dk_at dksX8_isLost_0 5 rfl rfl)
theorem dX8_isLost_6 : decode cX8_isLost 6 = .ok (.if_icmp .ne 16, 3) := dk_160 0 16 (dk_at dksX8_isLost_0 6 rfl rfl)
theorem dX8_isLost_9 : decode cX8_isLost 9 = .ok (.aload_n 0, 1) := dk_42 (dk_at dksX8_isLost_0 9 rfl rfl)
theorem dX8_isLost_10 : decode cX8_isLost 10 = .ok (.iload_n 1, 1) := dk_27 (dk_at dksX8_isLost_0 10 rfl rfl)
theorem dX8_isLost_11 : decode cX8_isLost 11 = .ok (.invokevirtual 256, 3) := dk_182 1 0 (dk_at dksX8_isLost_0 11 rfl rfl)
theorem dX8_isLost_14 : decode cX8_isLost 14 = .ok (.iconst (-1), 1) := dk_2 (dk_at dksX8_isLost_0 14 rfl rfl)
theorem dX8_isLost_15 : decode cX8_isLost 15 = .ok (.if_icmp .ne 7, 3) := dk_160 0 7 (dk_at dksX8_isLost_0 15 rfl rfl)
theorem dX8_isLost_18 : decode cX8_isLost 18 = .ok (.iconst 1, 1) := dk_4 (dk_at dksX8_isLost_0 18 rfl rfl)
theorem dX8_isLost_19 : decode cX8_isLost 19 = .ok (.goto 4, 3) := dk_167 0 4 (dk_at dksX8_isLost_0 19 rfl rfl)
theorem dX8_isLost_22 : decode cX8_isLost 22 = .ok (.iconst 0, 1) := dk_3 (dk_at dksX8_isLost_0 22 rfl rfl)
theorem dX8_isLost_23 : decode cX8_isLost 23 = .ok (.ireturn, 1) := dk_172 (dk_at dksX8_isLost_0 23 rfl rfl)
abbrev cX8_unclaimed : ByteArray := prog_21_method_85_code
def yX8_unclaimed : MethodName := ⟨RX8, "unclaimed", "()I"⟩
def dkwX8_unclaimed_2 : List UInt8 := [17, 1, 16, 28, 96, 46, 120, 167, 0, 4, 3, 128, 60, 132, 2, 1, 167, 255, 202, 27, 172]
abbrev dktX8_unclaimed_2 : List UInt8 := dkwX8_unclaimed_2 ++ []
def dkwX8_unclaimed_1 : List UInt8 := [17, 1, 16, 28, 96, 46, 2, 159, 0, 26, 42, 28, 182, 0, 118, 154, 0, 18, 4, 42, 180, 0, 7]
abbrev dktX8_unclaimed_1 : List UInt8 := dkwX8_unclaimed_1 ++ dktX8_unclaimed_2
def dkwX8_unclaimed_0 : List UInt8 := [42, 3, 181, 0, 50, 3, 60, 3, 61, 28, 42, 180, 0, 7, 7, 46, 162, 0, 50, 27, 42, 180, 0, 7]
abbrev dktX8_unclaimed_0 : List UInt8 := dkwX8_unclaimed_0 ++ dktX8_unclaimed_1
theorem dksX8_unclaimed_0 : cX8_unclaimed.data.toList.drop 0 = dktX8_unclaimed_0 := by decide +kernel
theorem dksX8_unclaimed_1 : cX8_unclaimed.data.toList.drop 24 = dktX8_unclaimed_1 := dk_seg dksX8_unclaimed_0 24 rfl rfl
theorem dksX8_unclaimed_2 : cX8_unclaimed.data.toList.drop 47 = dktX8_unclaimed_2 := dk_seg dksX8_unclaimed_1 23 rfl rfl
theorem dX8_unclaimed_0 : decode cX8_unclaimed 0 = .ok (.aload_n 0, 1) := dk_42 (dk_at dksX8_unclaimed_0 0 rfl rfl)
theorem dX8_unclaimed_1 : decode cX8_unclaimed 1 = .ok (.iconst 0, 1) := dk_3 (dk_at dksX8_unclaimed_0 1 rfl rfl)
theorem dX8_unclaimed_2 : decode cX8_unclaimed 2 = .ok (.putfield 50, 3) := dk_181 0 50 (dk_at dksX8_unclaimed_0 2 rfl rfl)
theorem dX8_unclaimed_5 : decode cX8_unclaimed 5 = .ok (.iconst 0, 1) := dk_3 (dk_at dksX8_unclaimed_0 5 rfl rfl)
theorem dX8_unclaimed_6 : decode cX8_unclaimed 6 = .ok (.istore_n 1, 1) := dk_60 (dk_at dksX8_unclaimed_0 6 rfl rfl)
theorem dX8_unclaimed_7 : decode cX8_unclaimed 7 = .ok (.iconst 0, 1) := dk_3 (dk_at dksX8_unclaimed_0 7 rfl rfl)
theorem dX8_unclaimed_8 : decode cX8_unclaimed 8 = .ok (.istore_n 2, 1) := dk_61 (dk_at dksX8_unclaimed_0 8 rfl rfl)
theorem dX8_unclaimed_9 : decode cX8_unclaimed 9 = .ok (.iload_n 2, 1) := dk_28 (dk_at dksX8_unclaimed_0 9 rfl rfl)
theorem dX8_unclaimed_10 : decode cX8_unclaimed 10 = .ok (.aload_n 0, 1) := dk_42 (dk_at dksX8_unclaimed_0 10 rfl rfl)
theorem dX8_unclaimed_11 : decode cX8_unclaimed 11 = .ok (.getfield 7, 3) := dk_180 0 7 (dk_at dksX8_unclaimed_0 11 rfl rfl)
theorem dX8_unclaimed_14 : decode cX8_unclaimed 14 = .ok (.iconst 4, 1) := dk_7 (dk_at dksX8_unclaimed_0 14 rfl rfl)
theorem dX8_unclaimed_15 : decode cX8_unclaimed 15 = .ok (.iaload, 1) := dk_46 (dk_at dksX8_unclaimed_0 15 rfl rfl)
theorem dX8_unclaimed_16 : decode cX8_unclaimed 16 = .ok (.if_icmp .ge 50, 3) := dk_162 0 50 (dk_at dksX8_unclaimed_0 16 rfl rfl)
theorem dX8_unclaimed_19 : decode cX8_unclaimed 19 = .ok (.iload_n 1, 1) := dk_27 (dk_at dksX8_unclaimed_0 19 rfl rfl)
theorem dX8_unclaimed_20 : decode cX8_unclaimed 20 = .ok (.aload_n 0, 1) := dk_42 (dk_at dksX8_unclaimed_0 20 rfl rfl)
theorem dX8_unclaimed_21 : decode cX8_unclaimed 21 = .ok (.getfield 7, 3) := dk_180 0 7 (dk_at dksX8_unclaimed_0 21 rfl rfl)
theorem dX8_unclaimed_24 : decode cX8_unclaimed 24 = .ok (.sipush 272, 3) := dk_17 1 16 (dk_at dksX8_unclaimed_1 0 rfl rfl)
theorem dX8_unclaimed_27 : decode cX8_unclaimed 27 = .ok (.iload_n 2, 1) := dk_28 (dk_at dksX8_unclaimed_1 3 rfl rfl)
theorem dX8_unclaimed_28 : decode cX8_unclaimed 28 = .ok (.iadd, 1) := dk_96 (dk_at dksX8_unclaimed_1 4 rfl rfl)
theorem dX8_unclaimed_29 : decode cX8_unclaimed 29 = .ok (.iaload, 1) := dk_46 (dk_at dksX8_unclaimed_1 5 rfl rfl)
theorem dX8_unclaimed_30 : decode cX8_unclaimed 30 = .ok (.iconst (-1), 1) := dk_2 (dk_at dksX8_unclaimed_1 6 rfl rfl)
theorem dX8_unclaimed_31 : decode cX8_unclaimed 31 = .ok (.if_icmp .eq 26, 3) := dk_159 0 26 (dk_at dksX8_unclaimed_1 7 rfl rfl)
theorem dX8_unclaimed_34 : decode cX8_unclaimed 34 = .ok (.aload_n 0, 1) := dk_42 (dk_at dksX8_unclaimed_1 10 rfl rfl)
theorem dX8_unclaimed_35 : decode cX8_unclaimed 35 = .ok (.iload_n 2, 1) := dk_28 (dk_at dksX8_unclaimed_1 11 rfl rfl)
theorem dX8_unclaimed_36 : decode cX8_unclaimed 36 = .ok (.invokevirtual 118, 3) := dk_182 0 118 (dk_at dksX8_unclaimed_1 12 rfl rfl)
theorem dX8_unclaimed_39 : decode cX8_unclaimed 39 = .ok (.ifCond .ne 18, 3) := dk_154 0 18 (dk_at dksX8_unclaimed_1 15 rfl rfl)
theorem dX8_unclaimed_42 : decode cX8_unclaimed 42 = .ok (.iconst 1, 1) := dk_4 (dk_at dksX8_unclaimed_1 18 rfl rfl)
theorem dX8_unclaimed_43 : decode cX8_unclaimed 43 = .ok (.aload_n 0, 1) := dk_42 (dk_at dksX8_unclaimed_1 19 rfl rfl)
theorem dX8_unclaimed_44 : decode cX8_unclaimed 44 = .ok (.getfield 7, 3) := dk_180 0 7 (dk_at dksX8_unclaimed_1 20 rfl rfl)
theorem dX8_unclaimed_47 : decode cX8_unclaimed 47 = .ok (.sipush 272, 3) := dk_17 1 16 (dk_at dksX8_unclaimed_2 0 rfl rfl)
theorem dX8_unclaimed_50 : decode cX8_unclaimed 50 = .ok (.iload_n 2, 1) := dk_28 (dk_at dksX8_unclaimed_2 3 rfl rfl)
theorem dX8_unclaimed_51 : decode cX8_unclaimed 51 = .ok (.iadd, 1) := dk_96 (dk_at dksX8_unclaimed_2 4 rfl rfl)
theorem dX8_unclaimed_52 : decode cX8_unclaimed 52 = .ok (.iaload, 1) := dk_46 (dk_at dksX8_unclaimed_2 5 rfl rfl)
theorem dX8_unclaimed_53 : decode cX8_unclaimed 53 = .ok (.ishl, 1) := dk_120 (dk_at dksX8_unclaimed_2 6 rfl rfl)
theorem dX8_unclaimed_54 : decode cX8_unclaimed 54 = .ok (.goto 4, 3) := dk_167 0 4 (dk_at dksX8_unclaimed_2 7 rfl rfl)
theorem dX8_unclaimed_57 : decode cX8_unclaimed 57 = .ok (.iconst 0, 1) := dk_3 (dk_at dksX8_unclaimed_2 10 rfl rfl)
theorem dX8_unclaimed_58 : decode cX8_unclaimed 58 = .ok (.ior, 1) := dk_128 (dk_at dksX8_unclaimed_2 11 rfl rfl)
theorem dX8_unclaimed_59 : decode cX8_unclaimed 59 = .ok (.istore_n 1, 1) := dk_60 (dk_at dksX8_unclaimed_2 12 rfl rfl)
theorem dX8_unclaimed_60 : decode cX8_unclaimed 60 = .ok (.iinc 2 1, 3) := dk_132 2 1 (dk_at dksX8_unclaimed_2 13 rfl rfl)
theorem dX8_unclaimed_63 : decode cX8_unclaimed 63 = .ok (.goto (-54), 3) := dk_167 255 202 (dk_at dksX8_unclaimed_2 16 rfl rfl)
theorem dX8_unclaimed_66 : decode cX8_unclaimed 66 = .ok (.iload_n 1, 1) := dk_27 (dk_at dksX8_unclaimed_2 19 rfl rfl)
theorem dX8_unclaimed_67 : decode cX8_unclaimed 67 = .ok (.ireturn, 1) := dk_172 (dk_at dksX8_unclaimed_2 20 rfl rfl)
abbrev cX8_swaps : ByteArray := prog_21_method_87_code
def yX8_swaps : MethodName := ⟨RX8, "swaps", "()I"⟩
def dkwX8_swaps_3 : List UInt8 := [167, 255, 193, 27, 172]
abbrev dktX8_swaps_3 : List UInt8 := dkwX8_swaps_3 ++ []
def dkwX8_swaps_2 : List UInt8 := [42, 28, 182, 1, 67, 153, 0, 16, 29, 4, 28, 120, 4, 100, 126, 154, 0, 6, 132, 1, 255, 132, 2, 1]
abbrev dktX8_swaps_2 : List UInt8 := dkwX8_swaps_2 ++ dktX8_swaps_3
def dkwX8_swaps_1 : List UInt8 := [154, 0, 45, 42, 28, 182, 0, 247, 28, 160, 0, 6, 167, 0, 33, 132, 1, 1, 42, 28, 182, 0, 253, 62]
abbrev dktX8_swaps_1 : List UInt8 := dkwX8_swaps_1 ++ dktX8_swaps_2
def dkwX8_swaps_0 : List UInt8 := [42, 3, 181, 0, 50, 3, 60, 3, 61, 28, 42, 180, 0, 7, 6, 46, 162, 0, 59, 42, 28, 182, 1, 64]
abbrev dktX8_swaps_0 : List UInt8 := dkwX8_swaps_0 ++ dktX8_swaps_1
theorem dksX8_swaps_0 : cX8_swaps.data.toList.drop 0 = dktX8_swaps_0 := by decide +kernel
theorem dksX8_swaps_1 : cX8_swaps.data.toList.drop 24 = dktX8_swaps_1 := dk_seg dksX8_swaps_0 24 rfl rfl
theorem dksX8_swaps_2 : cX8_swaps.data.toList.drop 48 = dktX8_swaps_2 := dk_seg dksX8_swaps_1 24 rfl rfl
theorem dksX8_swaps_3 : cX8_swaps.data.toList.drop 72 = dktX8_swaps_3 := dk_seg dksX8_swaps_2 24 rfl rfl
theorem dX8_swaps_0 : decode cX8_swaps 0 = .ok (.aload_n 0, 1) := dk_42 (dk_at dksX8_swaps_0 0 rfl rfl)
theorem dX8_swaps_1 : decode cX8_swaps 1 = .ok (.iconst 0, 1) := dk_3 (dk_at dksX8_swaps_0 1 rfl rfl)
theorem dX8_swaps_2 : decode cX8_swaps 2 = .ok (.putfield 50, 3) := dk_181 0 50 (dk_at dksX8_swaps_0 2 rfl rfl)
theorem dX8_swaps_5 : decode cX8_swaps 5 = .ok (.iconst 0, 1) := dk_3 (dk_at dksX8_swaps_0 5 rfl rfl)
theorem dX8_swaps_6 : decode cX8_swaps 6 = .ok (.istore_n 1, 1) := dk_60 (dk_at dksX8_swaps_0 6 rfl rfl)
theorem dX8_swaps_7 : decode cX8_swaps 7 = .ok (.iconst 0, 1) := dk_3 (dk_at dksX8_swaps_0 7 rfl rfl)
theorem dX8_swaps_8 : decode cX8_swaps 8 = .ok (.istore_n 2, 1) := dk_61 (dk_at dksX8_swaps_0 8 rfl rfl)
theorem dX8_swaps_9 : decode cX8_swaps 9 = .ok (.iload_n 2, 1) := dk_28 (dk_at dksX8_swaps_0 9 rfl rfl)
theorem dX8_swaps_10 : decode cX8_swaps 10 = .ok (.aload_n 0, 1) := dk_42 (dk_at dksX8_swaps_0 10 rfl rfl)
theorem dX8_swaps_11 : decode cX8_swaps 11 = .ok (.getfield 7, 3) := dk_180 0 7 (dk_at dksX8_swaps_0 11 rfl rfl)
theorem dX8_swaps_14 : decode cX8_swaps 14 = .ok (.iconst 3, 1) := dk_6 (dk_at dksX8_swaps_0 14 rfl rfl)
theorem dX8_swaps_15 : decode cX8_swaps 15 = .ok (.iaload, 1) := dk_46 (dk_at dksX8_swaps_0 15 rfl rfl)
theorem dX8_swaps_16 : decode cX8_swaps 16 = .ok (.if_icmp .ge 59, 3) := dk_162 0 59 (dk_at dksX8_swaps_0 16 rfl rfl)
theorem dX8_swaps_19 : decode cX8_swaps 19 = .ok (.aload_n 0, 1) := dk_42 (dk_at dksX8_swaps_0 19 rfl rfl)
theorem dX8_swaps_20 : decode cX8_swaps 20 = .ok (.iload_n 2, 1) := dk_28 (dk_at dksX8_swaps_0 20 rfl rfl)
theorem dX8_swaps_21 : decode cX8_swaps 21 = .ok (.invokevirtual 320, 3) := dk_182 1 64 (dk_at dksX8_swaps_0 21 rfl rfl)
theorem dX8_swaps_24 : decode cX8_swaps 24 = .ok (.ifCond .ne 45, 3) := dk_154 0 45 (dk_at dksX8_swaps_1 0 rfl rfl)
theorem dX8_swaps_27 : decode cX8_swaps 27 = .ok (.aload_n 0, 1) := dk_42 (dk_at dksX8_swaps_1 3 rfl rfl)
theorem dX8_swaps_28 : decode cX8_swaps 28 = .ok (.iload_n 2, 1) := dk_28 (dk_at dksX8_swaps_1 4 rfl rfl)
theorem dX8_swaps_29 : decode cX8_swaps 29 = .ok (.invokevirtual 247, 3) := dk_182 0 247 (dk_at dksX8_swaps_1 5 rfl rfl)
theorem dX8_swaps_32 : decode cX8_swaps 32 = .ok (.iload_n 2, 1) := dk_28 (dk_at dksX8_swaps_1 8 rfl rfl)
theorem dX8_swaps_33 : decode cX8_swaps 33 = .ok (.if_icmp .ne 6, 3) := dk_160 0 6 (dk_at dksX8_swaps_1 9 rfl rfl)
theorem dX8_swaps_36 : decode cX8_swaps 36 = .ok (.goto 33, 3) := dk_167 0 33 (dk_at dksX8_swaps_1 12 rfl rfl)
theorem dX8_swaps_39 : decode cX8_swaps 39 = .ok (.iinc 1 1, 3) := dk_132 1 1 (dk_at dksX8_swaps_1 15 rfl rfl)
theorem dX8_swaps_42 : decode cX8_swaps 42 = .ok (.aload_n 0, 1) := dk_42 (dk_at dksX8_swaps_1 18 rfl rfl)
theorem dX8_swaps_43 : decode cX8_swaps 43 = .ok (.iload_n 2, 1) := dk_28 (dk_at dksX8_swaps_1 19 rfl rfl)
theorem dX8_swaps_44 : decode cX8_swaps 44 = .ok (.invokevirtual 253, 3) := dk_182 0 253 (dk_at dksX8_swaps_1 20 rfl rfl)
theorem dX8_swaps_47 : decode cX8_swaps 47 = .ok (.istore_n 3, 1) := dk_62 (dk_at dksX8_swaps_1 23 rfl rfl)
theorem dX8_swaps_48 : decode cX8_swaps 48 = .ok (.aload_n 0, 1) := dk_42 (dk_at dksX8_swaps_2 0 rfl rfl)
theorem dX8_swaps_49 : decode cX8_swaps 49 = .ok (.iload_n 2, 1) := dk_28 (dk_at dksX8_swaps_2 1 rfl rfl)
theorem dX8_swaps_50 : decode cX8_swaps 50 = .ok (.invokevirtual 323, 3) := dk_182 1 67 (dk_at dksX8_swaps_2 2 rfl rfl)
theorem dX8_swaps_53 : decode cX8_swaps 53 = .ok (.ifCond .eq 16, 3) := dk_153 0 16 (dk_at dksX8_swaps_2 5 rfl rfl)
theorem dX8_swaps_56 : decode cX8_swaps 56 = .ok (.iload_n 3, 1) := dk_29 (dk_at dksX8_swaps_2 8 rfl rfl)
theorem dX8_swaps_57 : decode cX8_swaps 57 = .ok (.iconst 1, 1) := dk_4 (dk_at dksX8_swaps_2 9 rfl rfl)
theorem dX8_swaps_58 : decode cX8_swaps 58 = .ok (.iload_n 2, 1) := dk_28 (dk_at dksX8_swaps_2 10 rfl rfl)
theorem dX8_swaps_59 : decode cX8_swaps 59 = .ok (.ishl, 1) := dk_120 (dk_at dksX8_swaps_2 11 rfl rfl)
theorem dX8_swaps_60 : decode cX8_swaps 60 = .ok (.iconst 1, 1) := dk_4 (dk_at dksX8_swaps_2 12 rfl rfl)
theorem dX8_swaps_61 : decode cX8_swaps 61 = .ok (.isub, 1) := dk_100 (dk_at dksX8_swaps_2 13 rfl rfl)
theorem dX8_swaps_62 : decode cX8_swaps 62 = .ok (.iand, 1) := dk_126 (dk_at dksX8_swaps_2 14 rfl rfl)
theorem dX8_swaps_63 : decode cX8_swaps 63 = .ok (.ifCond .ne 6, 3) := dk_154 0 6 (dk_at dksX8_swaps_2 15 rfl rfl)
theorem dX8_swaps_66 : decode cX8_swaps 66 = .ok (.iinc 1 (-1), 3) := dk_132 1 255 (dk_at dksX8_swaps_2 18 rfl rfl)
theorem dX8_swaps_69 : decode cX8_swaps 69 = .ok (.iinc 2 1, 3) := dk_132 2 1 (dk_at dksX8_swaps_2 21 rfl rfl)
theorem dX8_swaps_72 : decode cX8_swaps 72 = .ok (.goto (-63), 3) := dk_167 255 193 (dk_at dksX8_swaps_3 0 rfl rfl)
theorem dX8_swaps_75 : decode cX8_swaps 75 = .ok (.iload_n 1, 1) := dk_27 (dk_at dksX8_swaps_3 3 rfl rfl)
theorem dX8_swaps_76 : decode cX8_swaps 76 = .ok (.ireturn, 1) := dk_172 (dk_at dksX8_swaps_3 4 rfl rfl)
abbrev cX8_comesRound : ByteArray := prog_21_method_86_code
def yX8_comesRound : MethodName := ⟨RX8, "comesRound", "(I)Z"⟩
def dkwX8_comesRound_1 : List UInt8 := [167, 255, 240, 28, 27, 160, 0, 7, 4, 167, 0, 4, 3, 172]
abbrev dktX8_comesRound_1 : List UInt8 := dkwX8_comesRound_1 ++ []
def dkwX8_comesRound_0 : List UInt8 := [42, 27, 182, 0, 247, 61, 28, 2, 159, 0, 17, 28, 27, 159, 0, 12, 42, 28, 182, 0, 247, 61]
abbrev dktX8_comesRound_0 : List UInt8 := dkwX8_comesRound_0 ++ dktX8_comesRound_1
theorem dksX8_comesRound_0 : cX8_comesRound.data.toList.drop 0 = dktX8_comesRound_0 := by decide +kernel
theorem dksX8_comesRound_1 : cX8_comesRound.data.toList.drop 22 = dktX8_comesRound_1 := dk_seg dksX8_comesRound_0 22 rfl rfl
theorem dX8_comesRound_0 : decode cX8_comesRound 0 = .ok (.aload_n 0, 1) := dk_42 (dk_at dksX8_comesRound_0 0 rfl rfl)
theorem dX8_comesRound_1 : decode cX8_comesRound 1 = .ok (.iload_n 1, 1) := dk_27 (dk_at dksX8_comesRound_0 1 rfl rfl)
theorem dX8_comesRound_2 : decode cX8_comesRound 2 = .ok (.invokevirtual 247, 3) := dk_182 0 247 (dk_at dksX8_comesRound_0 2 rfl rfl)
theorem dX8_comesRound_5 : decode cX8_comesRound 5 = .ok (.istore_n 2, 1) := dk_61 (dk_at dksX8_comesRound_0 5 rfl rfl)
theorem dX8_comesRound_6 : decode cX8_comesRound 6 = .ok (.iload_n 2, 1) := dk_28 (dk_at dksX8_comesRound_0 6 rfl rfl)
theorem dX8_comesRound_7 : decode cX8_comesRound 7 = .ok (.iconst (-1), 1) := dk_2 (dk_at dksX8_comesRound_0 7 rfl rfl)
theorem dX8_comesRound_8 : decode cX8_comesRound 8 = .ok (.if_icmp .eq 17, 3) := dk_159 0 17 (dk_at dksX8_comesRound_0 8 rfl rfl)
theorem dX8_comesRound_11 : decode cX8_comesRound 11 = .ok (.iload_n 2, 1) := dk_28 (dk_at dksX8_comesRound_0 11 rfl rfl)
theorem dX8_comesRound_12 : decode cX8_comesRound 12 = .ok (.iload_n 1, 1) := dk_27 (dk_at dksX8_comesRound_0 12 rfl rfl)
theorem dX8_comesRound_13 : decode cX8_comesRound 13 = .ok (.if_icmp .eq 12, 3) := dk_159 0 12 (dk_at dksX8_comesRound_0 13 rfl rfl)
theorem dX8_comesRound_16 : decode cX8_comesRound 16 = .ok (.aload_n 0, 1) := dk_42 (dk_at dksX8_comesRound_0 16 rfl rfl)
theorem dX8_comesRound_17 : decode cX8_comesRound 17 = .ok (.iload_n 2, 1) := dk_28 (dk_at dksX8_comesRound_0 17 rfl rfl)
theorem dX8_comesRound_18 : decode cX8_comesRound 18 = .ok (.invokevirtual 247, 3) := dk_182 0 247 (dk_at dksX8_comesRound_0 18 rfl rfl)
theorem dX8_comesRound_21 : decode cX8_comesRound 21 = .ok (.istore_n 2, 1) := dk_61 (dk_at dksX8_comesRound_0 21 rfl rfl)
theorem dX8_comesRound_22 : decode cX8_comesRound 22 = .ok (.goto (-16), 3) := dk_167 255 240 (dk_at dksX8_comesRound_1 0 rfl rfl)
theorem dX8_comesRound_25 : decode cX8_comesRound 25 = .ok (.iload_n 2, 1) := dk_28 (dk_at dksX8_comesRound_1 3 rfl rfl)
theorem dX8_comesRound_26 : decode cX8_comesRound 26 = .ok (.iload_n 1, 1) := dk_27 (dk_at dksX8_comesRound_1 4 rfl rfl)
theorem dX8_comesRound_27 : decode cX8_comesRound 27 = .ok (.if_icmp .ne 7, 3) := dk_160 0 7 (dk_at dksX8_comesRound_1 5 rfl rfl)
theorem dX8_comesRound_30 : decode cX8_comesRound 30 = .ok (.iconst 1, 1) := dk_4 (dk_at dksX8_comesRound_1 8 rfl rfl)
theorem dX8_comesRound_31 : decode cX8_comesRound 31 = .ok (.goto 4, 3) := dk_167 0 4 (dk_at dksX8_comesRound_1 9 rfl rfl)
theorem dX8_comesRound_34 : decode cX8_comesRound 34 = .ok (.iconst 0, 1) := dk_3 (dk_at dksX8_comesRound_1 12 rfl rfl)
theorem dX8_comesRound_35 : decode cX8_comesRound 35 = .ok (.ireturn, 1) := dk_172 (dk_at dksX8_comesRound_1 13 rfl rfl)
abbrev cX8_saved : ByteArray := prog_21_method_88_code
def yX8_saved : MethodName := ⟨RX8, "saved", "()I"⟩
def dkwX8_saved_2 : List UInt8 := [182, 0, 57, 28, 160, 0, 9, 4, 28, 120, 167, 0, 4, 3, 128, 60, 132, 2, 1, 167, 255, 201, 27, 172]
abbrev dktX8_saved_2 : List UInt8 := dkwX8_saved_2 ++ []
def dkwX8_saved_1 : List UInt8 := [182, 0, 57, 62, 27, 29, 2, 159, 0, 29, 42, 28, 5, 182, 0, 57, 29, 160, 0, 19, 42, 29, 5]
abbrev dktX8_saved_1 : List UInt8 := dkwX8_saved_1 ++ dktX8_saved_2
def dkwX8_saved_0 : List UInt8 := [42, 3, 181, 0, 50, 3, 60, 3, 61, 28, 42, 180, 0, 7, 6, 46, 162, 0, 51, 42, 28, 7]
abbrev dktX8_saved_0 : List UInt8 := dkwX8_saved_0 ++ dktX8_saved_1
theorem dksX8_saved_0 : cX8_saved.data.toList.drop 0 = dktX8_saved_0 := by decide +kernel
theorem dksX8_saved_1 : cX8_saved.data.toList.drop 22 = dktX8_saved_1 := dk_seg dksX8_saved_0 22 rfl rfl
theorem dksX8_saved_2 : cX8_saved.data.toList.drop 45 = dktX8_saved_2 := dk_seg dksX8_saved_1 23 rfl rfl
theorem dX8_saved_0 : decode cX8_saved 0 = .ok (.aload_n 0, 1) := dk_42 (dk_at dksX8_saved_0 0 rfl rfl)
theorem dX8_saved_1 : decode cX8_saved 1 = .ok (.iconst 0, 1) := dk_3 (dk_at dksX8_saved_0 1 rfl rfl)
theorem dX8_saved_2 : decode cX8_saved 2 = .ok (.putfield 50, 3) := dk_181 0 50 (dk_at dksX8_saved_0 2 rfl rfl)
theorem dX8_saved_5 : decode cX8_saved 5 = .ok (.iconst 0, 1) := dk_3 (dk_at dksX8_saved_0 5 rfl rfl)
theorem dX8_saved_6 : decode cX8_saved 6 = .ok (.istore_n 1, 1) := dk_60 (dk_at dksX8_saved_0 6 rfl rfl)
theorem dX8_saved_7 : decode cX8_saved 7 = .ok (.iconst 0, 1) := dk_3 (dk_at dksX8_saved_0 7 rfl rfl)
theorem dX8_saved_8 : decode cX8_saved 8 = .ok (.istore_n 2, 1) := dk_61 (dk_at dksX8_saved_0 8 rfl rfl)
theorem dX8_saved_9 : decode cX8_saved 9 = .ok (.iload_n 2, 1) := dk_28 (dk_at dksX8_saved_0 9 rfl rfl)
theorem dX8_saved_10 : decode cX8_saved 10 = .ok (.aload_n 0, 1) := dk_42 (dk_at dksX8_saved_0 10 rfl rfl)
theorem dX8_saved_11 : decode cX8_saved 11 = .ok (.getfield 7, 3) := dk_180 0 7 (dk_at dksX8_saved_0 11 rfl rfl)
theorem dX8_saved_14 : decode cX8_saved 14 = .ok (.iconst 3, 1) := dk_6 (dk_at dksX8_saved_0 14 rfl rfl)
theorem dX8_saved_15 : decode cX8_saved 15 = .ok (.iaload, 1) := dk_46 (dk_at dksX8_saved_0 15 rfl rfl)
theorem dX8_saved_16 : decode cX8_saved 16 = .ok (.if_icmp .ge 51, 3) := dk_162 0 51 (dk_at dksX8_saved_0 16 rfl rfl)
theorem dX8_saved_19 : decode cX8_saved 19 = .ok (.aload_n 0, 1) := dk_42 (dk_at dksX8_saved_0 19 rfl rfl)
theorem dX8_saved_20 : decode cX8_saved 20 = .ok (.iload_n 2, 1) := dk_28 (dk_at dksX8_saved_0 20 rfl rfl)
theorem dX8_saved_21 : decode cX8_saved 21 = .ok (.iconst 4, 1) := dk_7 (dk_at dksX8_saved_0 21 rfl rfl)
theorem dX8_saved_22 : decode cX8_saved 22 = .ok (.invokevirtual 57, 3) := dk_182 0 57 (dk_at dksX8_saved_1 0 rfl rfl)
theorem dX8_saved_25 : decode cX8_saved 25 = .ok (.istore_n 3, 1) := dk_62 (dk_at dksX8_saved_1 3 rfl rfl)
theorem dX8_saved_26 : decode cX8_saved 26 = .ok (.iload_n 1, 1) := dk_27 (dk_at dksX8_saved_1 4 rfl rfl)
theorem dX8_saved_27 : decode cX8_saved 27 = .ok (.iload_n 3, 1) := dk_29 (dk_at dksX8_saved_1 5 rfl rfl)
theorem dX8_saved_28 : decode cX8_saved 28 = .ok (.iconst (-1), 1) := dk_2 (dk_at dksX8_saved_1 6 rfl rfl)
theorem dX8_saved_29 : decode cX8_saved 29 = .ok (.if_icmp .eq 29, 3) := dk_159 0 29 (dk_at dksX8_saved_1 7 rfl rfl)
theorem dX8_saved_32 : decode cX8_saved 32 = .ok (.aload_n 0, 1) := dk_42 (dk_at dksX8_saved_1 10 rfl rfl)
theorem dX8_saved_33 : decode cX8_saved 33 = .ok (.iload_n 2, 1) := dk_28 (dk_at dksX8_saved_1 11 rfl rfl)
theorem dX8_saved_34 : decode cX8_saved 34 = .ok (.iconst 2, 1) := dk_5 (dk_at dksX8_saved_1 12 rfl rfl)
theorem dX8_saved_35 : decode cX8_saved 35 = .ok (.invokevirtual 57, 3) := dk_182 0 57 (dk_at dksX8_saved_1 13 rfl rfl)
theorem dX8_saved_38 : decode cX8_saved 38 = .ok (.iload_n 3, 1) := dk_29 (dk_at dksX8_saved_1 16 rfl rfl)
theorem dX8_saved_39 : decode cX8_saved 39 = .ok (.if_icmp .ne 19, 3) := dk_160 0 19 (dk_at dksX8_saved_1 17 rfl rfl)
theorem dX8_saved_42 : decode cX8_saved 42 = .ok (.aload_n 0, 1) := dk_42 (dk_at dksX8_saved_1 20 rfl rfl)
theorem dX8_saved_43 : decode cX8_saved 43 = .ok (.iload_n 3, 1) := dk_29 (dk_at dksX8_saved_1 21 rfl rfl)
theorem dX8_saved_44 : decode cX8_saved 44 = .ok (.iconst 2, 1) := dk_5 (dk_at dksX8_saved_1 22 rfl rfl)
theorem dX8_saved_45 : decode cX8_saved 45 = .ok (.invokevirtual 57, 3) := dk_182 0 57 (dk_at dksX8_saved_2 0 rfl rfl)
theorem dX8_saved_48 : decode cX8_saved 48 = .ok (.iload_n 2, 1) := dk_28 (dk_at dksX8_saved_2 3 rfl rfl)
theorem dX8_saved_49 : decode cX8_saved 49 = .ok (.if_icmp .ne 9, 3) := dk_160 0 9 (dk_at dksX8_saved_2 4 rfl rfl)
theorem dX8_saved_52 : decode cX8_saved 52 = .ok (.iconst 1, 1) := dk_4 (dk_at dksX8_saved_2 7 rfl rfl)
theorem dX8_saved_53 : decode cX8_saved 53 = .ok (.iload_n 2, 1) := dk_28 (dk_at dksX8_saved_2 8 rfl rfl)
theorem dX8_saved_54 : decode cX8_saved 54 = .ok (.ishl, 1) := dk_120 (dk_at dksX8_saved_2 9 rfl rfl)
theorem dX8_saved_55 : decode cX8_saved 55 = .ok (.goto 4, 3) := dk_167 0 4 (dk_at dksX8_saved_2 10 rfl rfl)
theorem dX8_saved_58 : decode cX8_saved 58 = .ok (.iconst 0, 1) := dk_3 (dk_at dksX8_saved_2 13 rfl rfl)
theorem dX8_saved_59 : decode cX8_saved 59 = .ok (.ior, 1) := dk_128 (dk_at dksX8_saved_2 14 rfl rfl)
theorem dX8_saved_60 : decode cX8_saved 60 = .ok (.istore_n 1, 1) := dk_60 (dk_at dksX8_saved_2 15 rfl rfl)
theorem dX8_saved_61 : decode cX8_saved 61 = .ok (.iinc 2 1, 3) := dk_132 2 1 (dk_at dksX8_saved_2 16 rfl rfl)
theorem dX8_saved_64 : decode cX8_saved 64 = .ok (.goto (-55), 3) := dk_167 255 201 (dk_at dksX8_saved_2 19 rfl rfl)
theorem dX8_saved_67 : decode cX8_saved 67 = .ok (.iload_n 1, 1) := dk_27 (dk_at dksX8_saved_2 22 rfl rfl)
theorem dX8_saved_68 : decode cX8_saved 68 = .ok (.ireturn, 1) := dk_172 (dk_at dksX8_saved_2 23 rfl rfl)
abbrev cX8_marks : ByteArray := prog_21_method_90_code
def yX8_marks : MethodName := ⟨RX8, "marks", "()I"⟩
def dkwX8_marks_2 : List UInt8 := [167, 255, 220, 27, 172]
abbrev dktX8_marks_2 : List UInt8 := dkwX8_marks_2 ++ []
def dkwX8_marks_1 : List UInt8 := [184, 0, 242, 27, 184, 0, 242, 162, 0, 13, 42, 28, 182, 1, 70, 153, 0, 5, 28, 60, 132, 2, 1]
abbrev dktX8_marks_1 : List UInt8 := dkwX8_marks_1 ++ dktX8_marks_2
def dkwX8_marks_0 : List UInt8 := [42, 3, 181, 0, 50, 2, 60, 3, 61, 28, 17, 1, 0, 162, 0, 35, 27, 2, 159, 0, 14, 28]
abbrev dktX8_marks_0 : List UInt8 := dkwX8_marks_0 ++ dktX8_marks_1
theorem dksX8_marks_0 : cX8_marks.data.toList.drop 0 = dktX8_marks_0 := by decide +kernel
theorem dksX8_marks_1 : cX8_marks.data.toList.drop 22 = dktX8_marks_1 := dk_seg dksX8_marks_0 22 rfl rfl
theorem dksX8_marks_2 : cX8_marks.data.toList.drop 45 = dktX8_marks_2 := dk_seg dksX8_marks_1 23 rfl rfl
theorem dX8_marks_0 : decode cX8_marks 0 = .ok (.aload_n 0, 1) := dk_42 (dk_at dksX8_marks_0 0 rfl rfl)
theorem dX8_marks_1 : decode cX8_marks 1 = .ok (.iconst 0, 1) := dk_3 (dk_at dksX8_marks_0 1 rfl rfl)
theorem dX8_marks_2 : decode cX8_marks 2 = .ok (.putfield 50, 3) := dk_181 0 50 (dk_at dksX8_marks_0 2 rfl rfl)
theorem dX8_marks_5 : decode cX8_marks 5 = .ok (.iconst (-1), 1) := dk_2 (dk_at dksX8_marks_0 5 rfl rfl)
theorem dX8_marks_6 : decode cX8_marks 6 = .ok (.istore_n 1, 1) := dk_60 (dk_at dksX8_marks_0 6 rfl rfl)
theorem dX8_marks_7 : decode cX8_marks 7 = .ok (.iconst 0, 1) := dk_3 (dk_at dksX8_marks_0 7 rfl rfl)
theorem dX8_marks_8 : decode cX8_marks 8 = .ok (.istore_n 2, 1) := dk_61 (dk_at dksX8_marks_0 8 rfl rfl)
theorem dX8_marks_9 : decode cX8_marks 9 = .ok (.iload_n 2, 1) := dk_28 (dk_at dksX8_marks_0 9 rfl rfl)
theorem dX8_marks_10 : decode cX8_marks 10 = .ok (.sipush 256, 3) := dk_17 1 0 (dk_at dksX8_marks_0 10 rfl rfl)
theorem dX8_marks_13 : decode cX8_marks 13 = .ok (.if_icmp .ge 35, 3) := dk_162 0 35 (dk_at dksX8_marks_0 13 rfl rfl)
theorem dX8_marks_16 : decode cX8_marks 16 = .ok (.iload_n 1, 1) := dk_27 (dk_at dksX8_marks_0 16 rfl rfl)
theorem dX8_marks_17 : decode cX8_marks 17 = .ok (.iconst (-1), 1) := dk_2 (dk_at dksX8_marks_0 17 rfl rfl)
theorem dX8_marks_18 : decode cX8_marks 18 = .ok (.if_icmp .eq 14, 3) := dk_159 0 14 (dk_at dksX8_marks_0 18 rfl rfl)
theorem dX8_marks_21 : decode cX8_marks 21 = .ok (.iload_n 2, 1) := dk_28 (dk_at dksX8_marks_0 21 rfl rfl)
theorem dX8_marks_22 : decode cX8_marks 22 = .ok (.invokestatic 242, 3) := dk_184 0 242 (dk_at dksX8_marks_1 0 rfl rfl)
theorem dX8_marks_25 : decode cX8_marks 25 = .ok (.iload_n 1, 1) := dk_27 (dk_at dksX8_marks_1 3 rfl rfl)
theorem dX8_marks_26 : decode cX8_marks 26 = .ok (.invokestatic 242, 3) := dk_184 0 242 (dk_at dksX8_marks_1 4 rfl rfl)
theorem dX8_marks_29 : decode cX8_marks 29 = .ok (.if_icmp .ge 13, 3) := dk_162 0 13 (dk_at dksX8_marks_1 7 rfl rfl)
theorem dX8_marks_32 : decode cX8_marks 32 = .ok (.aload_n 0, 1) := dk_42 (dk_at dksX8_marks_1 10 rfl rfl)
theorem dX8_marks_33 : decode cX8_marks 33 = .ok (.iload_n 2, 1) := dk_28 (dk_at dksX8_marks_1 11 rfl rfl)
theorem dX8_marks_34 : decode cX8_marks 34 = .ok (.invokevirtual 326, 3) := dk_182 1 70 (dk_at dksX8_marks_1 12 rfl rfl)
theorem dX8_marks_37 : decode cX8_marks 37 = .ok (.ifCond .eq 5, 3) := dk_153 0 5 (dk_at dksX8_marks_1 15 rfl rfl)
theorem dX8_marks_40 : decode cX8_marks 40 = .ok (.iload_n 2, 1) := dk_28 (dk_at dksX8_marks_1 18 rfl rfl)
theorem dX8_marks_41 : decode cX8_marks 41 = .ok (.istore_n 1, 1) := dk_60 (dk_at dksX8_marks_1 19 rfl rfl)
theorem dX8_marks_42 : decode cX8_marks 42 = .ok (.iinc 2 1, 3) := dk_132 2 1 (dk_at dksX8_marks_1 20 rfl rfl)
theorem dX8_marks_45 : decode cX8_marks 45 = .ok (.goto (-36), 3) := dk_167 255 220 (dk_at dksX8_marks_2 0 rfl rfl)
theorem dX8_marks_48 : decode cX8_marks 48 = .ok (.iload_n 1, 1) := dk_27 (dk_at dksX8_marks_2 3 rfl rfl)
theorem dX8_marks_49 : decode cX8_marks 49 = .ok (.ireturn, 1) := dk_172 (dk_at dksX8_marks_2 4 rfl rfl)
abbrev cX8_areUnlike : ByteArray := prog_21_method_89_code
def yX8_areUnlike : MethodName := ⟨RX8, "areUnlike", "(I)Z"⟩
def dkwX8_areUnlike_2 : List UInt8 := [132, 2, 1, 167, 255, 209, 4, 172]
abbrev dktX8_areUnlike_2 : List UInt8 := dkwX8_areUnlike_2 ++ []
def dkwX8_areUnlike_1 : List UInt8 := [182, 0, 57, 27, 126, 42, 29, 3, 182, 0, 57, 27, 126, 160, 0, 5, 3, 172, 132, 3, 1, 167, 255, 227]
abbrev dktX8_areUnlike_1 : List UInt8 := dkwX8_areUnlike_1 ++ dktX8_areUnlike_2
def dkwX8_areUnlike_0 : List UInt8 := [3, 61, 28, 42, 180, 0, 7, 6, 46, 162, 0, 43, 3, 62, 29, 28, 162, 0, 30, 42, 28, 3]
abbrev dktX8_areUnlike_0 : List UInt8 := dkwX8_areUnlike_0 ++ dktX8_areUnlike_1
theorem dksX8_areUnlike_0 : cX8_areUnlike.data.toList.drop 0 = dktX8_areUnlike_0 := by decide +kernel
theorem dksX8_areUnlike_1 : cX8_areUnlike.data.toList.drop 22 = dktX8_areUnlike_1 := dk_seg dksX8_areUnlike_0 22 rfl rfl
theorem dksX8_areUnlike_2 : cX8_areUnlike.data.toList.drop 46 = dktX8_areUnlike_2 := dk_seg dksX8_areUnlike_1 24 rfl rfl
theorem dX8_areUnlike_0 : decode cX8_areUnlike 0 = .ok (.iconst 0, 1) := dk_3 (dk_at dksX8_areUnlike_0 0 rfl rfl)
theorem dX8_areUnlike_1 : decode cX8_areUnlike 1 = .ok (.istore_n 2, 1) := dk_61 (dk_at dksX8_areUnlike_0 1 rfl rfl)
theorem dX8_areUnlike_2 : decode cX8_areUnlike 2 = .ok (.iload_n 2, 1) := dk_28 (dk_at dksX8_areUnlike_0 2 rfl rfl)
theorem dX8_areUnlike_3 : decode cX8_areUnlike 3 = .ok (.aload_n 0, 1) := dk_42 (dk_at dksX8_areUnlike_0 3 rfl rfl)
theorem dX8_areUnlike_4 : decode cX8_areUnlike 4 = .ok (.getfield 7, 3) := dk_180 0 7 (dk_at dksX8_areUnlike_0 4 rfl rfl)
theorem dX8_areUnlike_7 : decode cX8_areUnlike 7 = .ok (.iconst 3, 1) := dk_6 (dk_at dksX8_areUnlike_0 7 rfl rfl)
theorem dX8_areUnlike_8 : decode cX8_areUnlike 8 = .ok (.iaload, 1) := dk_46 (dk_at dksX8_areUnlike_0 8 rfl rfl)
theorem dX8_areUnlike_9 : decode cX8_areUnlike 9 = .ok (.if_icmp .ge 43, 3) := dk_162 0 43 (dk_at dksX8_areUnlike_0 9 rfl rfl)
theorem dX8_areUnlike_12 : decode cX8_areUnlike 12 = .ok (.iconst 0, 1) := dk_3 (dk_at dksX8_areUnlike_0 12 rfl rfl)
theorem dX8_areUnlike_13 : decode cX8_areUnlike 13 = .ok (.istore_n 3, 1) := dk_62 (dk_at dksX8_areUnlike_0 13 rfl rfl)
theorem dX8_areUnlike_14 : decode cX8_areUnlike 14 = .ok (.iload_n 3, 1) := dk_29 (dk_at dksX8_areUnlike_0 14 rfl rfl)
theorem dX8_areUnlike_15 : decode cX8_areUnlike 15 = .ok (.iload_n 2, 1) := dk_28 (dk_at dksX8_areUnlike_0 15 rfl rfl)
theorem dX8_areUnlike_16 : decode cX8_areUnlike 16 = .ok (.if_icmp .ge 30, 3) := dk_162 0 30 (dk_at dksX8_areUnlike_0 16 rfl rfl)
theorem dX8_areUnlike_19 : decode cX8_areUnlike 19 = .ok (.aload_n 0, 1) := dk_42 (dk_at dksX8_areUnlike_0 19 rfl rfl)
theorem dX8_areUnlike_20 : decode cX8_areUnlike 20 = .ok (.iload_n 2, 1) := dk_28 (dk_at dksX8_areUnlike_0 20 rfl rfl)
theorem dX8_areUnlike_21 : decode cX8_areUnlike 21 = .ok (.iconst 0, 1) := dk_3 (dk_at dksX8_areUnlike_0 21 rfl rfl)
theorem dX8_areUnlike_22 : decode cX8_areUnlike 22 = .ok (.invokevirtual 57, 3) := dk_182 0 57 (dk_at dksX8_areUnlike_1 0 rfl rfl)
theorem dX8_areUnlike_25 : decode cX8_areUnlike 25 = .ok (.iload_n 1, 1) := dk_27 (dk_at dksX8_areUnlike_1 3 rfl rfl)
theorem dX8_areUnlike_26 : decode cX8_areUnlike 26 = .ok (.iand, 1) := dk_126 (dk_at dksX8_areUnlike_1 4 rfl rfl)
theorem dX8_areUnlike_27 : decode cX8_areUnlike 27 = .ok (.aload_n 0, 1) := dk_42 (dk_at dksX8_areUnlike_1 5 rfl rfl)
theorem dX8_areUnlike_28 : decode cX8_areUnlike 28 = .ok (.iload_n 3, 1) := dk_29 (dk_at dksX8_areUnlike_1 6 rfl rfl)
theorem dX8_areUnlike_29 : decode cX8_areUnlike 29 = .ok (.iconst 0, 1) := dk_3 (dk_at dksX8_areUnlike_1 7 rfl rfl)
theorem dX8_areUnlike_30 : decode cX8_areUnlike 30 = .ok (.invokevirtual 57, 3) := dk_182 0 57 (dk_at dksX8_areUnlike_1 8 rfl rfl)
theorem dX8_areUnlike_33 : decode cX8_areUnlike 33 = .ok (.iload_n 1, 1) := dk_27 (dk_at dksX8_areUnlike_1 11 rfl rfl)
theorem dX8_areUnlike_34 : decode cX8_areUnlike 34 = .ok (.iand, 1) := dk_126 (dk_at dksX8_areUnlike_1 12 rfl rfl)
theorem dX8_areUnlike_35 : decode cX8_areUnlike 35 = .ok (.if_icmp .ne 5, 3) := dk_160 0 5 (dk_at dksX8_areUnlike_1 13 rfl rfl)
theorem dX8_areUnlike_38 : decode cX8_areUnlike 38 = .ok (.iconst 0, 1) := dk_3 (dk_at dksX8_areUnlike_1 16 rfl rfl)
theorem dX8_areUnlike_39 : decode cX8_areUnlike 39 = .ok (.ireturn, 1) := dk_172 (dk_at dksX8_areUnlike_1 17 rfl rfl)
theorem dX8_areUnlike_40 : decode cX8_areUnlike 40 = .ok (.iinc 3 1, 3) := dk_132 3 1 (dk_at dksX8_areUnlike_1 18 rfl rfl)
theorem dX8_areUnlike_43 : decode cX8_areUnlike 43 = .ok (.goto (-29), 3) := dk_167 255 227 (dk_at dksX8_areUnlike_1 21 rfl rfl)
theorem dX8_areUnlike_46 : decode cX8_areUnlike 46 = .ok (.iinc 2 1, 3) := dk_132 2 1 (dk_at dksX8_areUnlike_2 0 rfl rfl)
theorem dX8_areUnlike_49 : decode cX8_areUnlike 49 = .ok (.goto (-47), 3) := dk_167 255 209 (dk_at dksX8_areUnlike_2 3 rfl rfl)
theorem dX8_areUnlike_52 : decode cX8_areUnlike 52 = .ok (.iconst 1, 1) := dk_4 (dk_at dksX8_areUnlike_2 6 rfl rfl)
theorem dX8_areUnlike_53 : decode cX8_areUnlike 53 = .ok (.ireturn, 1) := dk_172 (dk_at dksX8_areUnlike_2 7 rfl rfl)
abbrev cX8_unknown : ByteArray := prog_21_method_91_code
def yX8_unknown : MethodName := ⟨RX8, "unknown", "()I"⟩
def dkwX8_unknown_3 : List UInt8 := [167, 255, 195, 27, 172]
abbrev dktX8_unknown_3 : List UInt8 := dkwX8_unknown_3 ++ []
def dkwX8_unknown_2 : List UInt8 := [182, 0, 57, 160, 0, 9, 4, 28, 120, 167, 0, 4, 3, 128, 60, 132, 3, 1, 167, 255, 213, 132, 2, 1]
abbrev dktX8_unknown_2 : List UInt8 := dkwX8_unknown_2 ++ dktX8_unknown_3
def dkwX8_unknown_1 : List UInt8 := [180, 0, 7, 6, 46, 162, 0, 39, 27, 29, 28, 159, 0, 24, 42, 29, 4, 182, 0, 57, 42, 28, 4]
abbrev dktX8_unknown_1 : List UInt8 := dkwX8_unknown_1 ++ dktX8_unknown_2
def dkwX8_unknown_0 : List UInt8 := [42, 3, 181, 0, 50, 3, 60, 3, 61, 28, 42, 180, 0, 7, 6, 46, 162, 0, 57, 3, 62, 29, 42]
abbrev dktX8_unknown_0 : List UInt8 := dkwX8_unknown_0 ++ dktX8_unknown_1
theorem dksX8_unknown_0 : cX8_unknown.data.toList.drop 0 = dktX8_unknown_0 := by decide +kernel
theorem dksX8_unknown_1 : cX8_unknown.data.toList.drop 23 = dktX8_unknown_1 := dk_seg dksX8_unknown_0 23 rfl rfl
theorem dksX8_unknown_2 : cX8_unknown.data.toList.drop 46 = dktX8_unknown_2 := dk_seg dksX8_unknown_1 23 rfl rfl
theorem dksX8_unknown_3 : cX8_unknown.data.toList.drop 70 = dktX8_unknown_3 := dk_seg dksX8_unknown_2 24 rfl rfl
theorem dX8_unknown_0 : decode cX8_unknown 0 = .ok (.aload_n 0, 1) := dk_42 (dk_at dksX8_unknown_0 0 rfl rfl)
theorem dX8_unknown_1 : decode cX8_unknown 1 = .ok (.iconst 0, 1) := dk_3 (dk_at dksX8_unknown_0 1 rfl rfl)
theorem dX8_unknown_2 : decode cX8_unknown 2 = .ok (.putfield 50, 3) := dk_181 0 50 (dk_at dksX8_unknown_0 2 rfl rfl)
theorem dX8_unknown_5 : decode cX8_unknown 5 = .ok (.iconst 0, 1) := dk_3 (dk_at dksX8_unknown_0 5 rfl rfl)
theorem dX8_unknown_6 : decode cX8_unknown 6 = .ok (.istore_n 1, 1) := dk_60 (dk_at dksX8_unknown_0 6 rfl rfl)
theorem dX8_unknown_7 : decode cX8_unknown 7 = .ok (.iconst 0, 1) := dk_3 (dk_at dksX8_unknown_0 7 rfl rfl)
theorem dX8_unknown_8 : decode cX8_unknown 8 = .ok (.istore_n 2, 1) := dk_61 (dk_at dksX8_unknown_0 8 rfl rfl)
theorem dX8_unknown_9 : decode cX8_unknown 9 = .ok (.iload_n 2, 1) := dk_28 (dk_at dksX8_unknown_0 9 rfl rfl)
theorem dX8_unknown_10 : decode cX8_unknown 10 = .ok (.aload_n 0, 1) := dk_42 (dk_at dksX8_unknown_0 10 rfl rfl)
theorem dX8_unknown_11 : decode cX8_unknown 11 = .ok (.getfield 7, 3) := dk_180 0 7 (dk_at dksX8_unknown_0 11 rfl rfl)
theorem dX8_unknown_14 : decode cX8_unknown 14 = .ok (.iconst 3, 1) := dk_6 (dk_at dksX8_unknown_0 14 rfl rfl)
theorem dX8_unknown_15 : decode cX8_unknown 15 = .ok (.iaload, 1) := dk_46 (dk_at dksX8_unknown_0 15 rfl rfl)
theorem dX8_unknown_16 : decode cX8_unknown 16 = .ok (.if_icmp .ge 57, 3) := dk_162 0 57 (dk_at dksX8_unknown_0 16 rfl rfl)
theorem dX8_unknown_19 : decode cX8_unknown 19 = .ok (.iconst 0, 1) := dk_3 (dk_at dksX8_unknown_0 19 rfl rfl)
theorem dX8_unknown_20 : decode cX8_unknown 20 = .ok (.istore_n 3, 1) := dk_62 (dk_at dksX8_unknown_0 20 rfl rfl)
theorem dX8_unknown_21 : decode cX8_unknown 21 = .ok (.iload_n 3, 1) := dk_29 (dk_at dksX8_unknown_0 21 rfl rfl)
theorem dX8_unknown_22 : decode cX8_unknown 22 = .ok (.aload_n 0, 1) := dk_42 (dk_at dksX8_unknown_0 22 rfl rfl)
theorem dX8_unknown_23 : decode cX8_unknown 23 = .ok (.getfield 7, 3) := dk_180 0 7 (dk_at dksX8_unknown_1 0 rfl rfl)
theorem dX8_unknown_26 : decode cX8_unknown 26 = .ok (.iconst 3, 1) := dk_6 (dk_at dksX8_unknown_1 3 rfl rfl)
theorem dX8_unknown_27 : decode cX8_unknown 27 = .ok (.iaload, 1) := dk_46 (dk_at dksX8_unknown_1 4 rfl rfl)
theorem dX8_unknown_28 : decode cX8_unknown 28 = .ok (.if_icmp .ge 39, 3) := dk_162 0 39 (dk_at dksX8_unknown_1 5 rfl rfl)
theorem dX8_unknown_31 : decode cX8_unknown 31 = .ok (.iload_n 1, 1) := dk_27 (dk_at dksX8_unknown_1 8 rfl rfl)
theorem dX8_unknown_32 : decode cX8_unknown 32 = .ok (.iload_n 3, 1) := dk_29 (dk_at dksX8_unknown_1 9 rfl rfl)
theorem dX8_unknown_33 : decode cX8_unknown 33 = .ok (.iload_n 2, 1) := dk_28 (dk_at dksX8_unknown_1 10 rfl rfl)
theorem dX8_unknown_34 : decode cX8_unknown 34 = .ok (.if_icmp .eq 24, 3) := dk_159 0 24 (dk_at dksX8_unknown_1 11 rfl rfl)
theorem dX8_unknown_37 : decode cX8_unknown 37 = .ok (.aload_n 0, 1) := dk_42 (dk_at dksX8_unknown_1 14 rfl rfl)
theorem dX8_unknown_38 : decode cX8_unknown 38 = .ok (.iload_n 3, 1) := dk_29 (dk_at dksX8_unknown_1 15 rfl rfl)
theorem dX8_unknown_39 : decode cX8_unknown 39 = .ok (.iconst 1, 1) := dk_4 (dk_at dksX8_unknown_1 16 rfl rfl)
theorem dX8_unknown_40 : decode cX8_unknown 40 = .ok (.invokevirtual 57, 3) := dk_182 0 57 (dk_at dksX8_unknown_1 17 rfl rfl)
theorem dX8_unknown_43 : decode cX8_unknown 43 = .ok (.aload_n 0, 1) := dk_42 (dk_at dksX8_unknown_1 20 rfl rfl)
theorem dX8_unknown_44 : decode cX8_unknown 44 = .ok (.iload_n 2, 1) := dk_28 (dk_at dksX8_unknown_1 21 rfl rfl)
theorem dX8_unknown_45 : decode cX8_unknown 45 = .ok (.iconst 1, 1) := dk_4 (dk_at dksX8_unknown_1 22 rfl rfl)
theorem dX8_unknown_46 : decode cX8_unknown 46 = .ok (.invokevirtual 57, 3) := dk_182 0 57 (dk_at dksX8_unknown_2 0 rfl rfl)
theorem dX8_unknown_49 : decode cX8_unknown 49 = .ok (.if_icmp .ne 9, 3) := dk_160 0 9 (dk_at dksX8_unknown_2 3 rfl rfl)
theorem dX8_unknown_52 : decode cX8_unknown 52 = .ok (.iconst 1, 1) := dk_4 (dk_at dksX8_unknown_2 6 rfl rfl)
theorem dX8_unknown_53 : decode cX8_unknown 53 = .ok (.iload_n 2, 1) := dk_28 (dk_at dksX8_unknown_2 7 rfl rfl)
theorem dX8_unknown_54 : decode cX8_unknown 54 = .ok (.ishl, 1) := dk_120 (dk_at dksX8_unknown_2 8 rfl rfl)
theorem dX8_unknown_55 : decode cX8_unknown 55 = .ok (.goto 4, 3) := dk_167 0 4 (dk_at dksX8_unknown_2 9 rfl rfl)
theorem dX8_unknown_58 : decode cX8_unknown 58 = .ok (.iconst 0, 1) := dk_3 (dk_at dksX8_unknown_2 12 rfl rfl)
theorem dX8_unknown_59 : decode cX8_unknown 59 = .ok (.ior, 1) := dk_128 (dk_at dksX8_unknown_2 13 rfl rfl)
theorem dX8_unknown_60 : decode cX8_unknown 60 = .ok (.istore_n 1, 1) := dk_60 (dk_at dksX8_unknown_2 14 rfl rfl)
theorem dX8_unknown_61 : decode cX8_unknown 61 = .ok (.iinc 3 1, 3) := dk_132 3 1 (dk_at dksX8_unknown_2 15 rfl rfl)
theorem dX8_unknown_64 : decode cX8_unknown 64 = .ok (.goto (-43), 3) := dk_167 255 213 (dk_at dksX8_unknown_2 18 rfl rfl)
theorem dX8_unknown_67 : decode cX8_unknown 67 = .ok (.iinc 2 1, 3) := dk_132 2 1 (dk_at dksX8_unknown_2 21 rfl rfl)
theorem dX8_unknown_70 : decode cX8_unknown 70 = .ok (.goto (-61), 3) := dk_167 255 195 (dk_at dksX8_unknown_3 0 rfl rfl)
theorem dX8_unknown_73 : decode cX8_unknown 73 = .ok (.iload_n 1, 1) := dk_27 (dk_at dksX8_unknown_3 3 rfl rfl)
theorem dX8_unknown_74 : decode cX8_unknown 74 = .ok (.ireturn, 1) := dk_172 (dk_at dksX8_unknown_3 4 rfl rfl)
abbrev cX8_passes : ByteArray := prog_21_method_92_code
def yX8_passes : MethodName := ⟨RX8, "passes", "(II)I"⟩
def dkwX8_passes_3 : List UInt8 := [163, 0, 10, 4, 21, 4, 120, 167, 0, 4, 3, 128, 62, 132, 4, 1, 167, 255, 215, 29, 172]
abbrev dktX8_passes_3 : List UInt8 := dkwX8_passes_3 ++ []
def dkwX8_passes_2 : List UInt8 := [180, 0, 7, 6, 46, 162, 0, 36, 29, 42, 21, 4, 3, 182, 0, 57, 27, 130, 184, 0, 242, 28]
abbrev dktX8_passes_2 : List UInt8 := dkwX8_passes_2 ++ dktX8_passes_3
def dkwX8_passes_1 : List UInt8 := [167, 0, 4, 3, 181, 0, 50, 42, 180, 0, 50, 158, 0, 5, 3, 172, 3, 62, 3, 54, 4, 21, 4, 42]
abbrev dktX8_passes_1 : List UInt8 := dkwX8_passes_1 ++ dktX8_passes_2
def dkwX8_passes_0 : List UInt8 := [42, 27, 3, 17, 0, 255, 184, 0, 53, 153, 0, 13, 28, 3, 16, 8, 184, 0, 53, 154, 0, 7, 4]
abbrev dktX8_passes_0 : List UInt8 := dkwX8_passes_0 ++ dktX8_passes_1
theorem dksX8_passes_0 : cX8_passes.data.toList.drop 0 = dktX8_passes_0 := by decide +kernel
theorem dksX8_passes_1 : cX8_passes.data.toList.drop 23 = dktX8_passes_1 := dk_seg dksX8_passes_0 23 rfl rfl
theorem dksX8_passes_2 : cX8_passes.data.toList.drop 47 = dktX8_passes_2 := dk_seg dksX8_passes_1 24 rfl rfl
theorem dksX8_passes_3 : cX8_passes.data.toList.drop 69 = dktX8_passes_3 := dk_seg dksX8_passes_2 22 rfl rfl
theorem dX8_passes_0 : decode cX8_passes 0 = .ok (.aload_n 0, 1) := dk_42 (dk_at dksX8_passes_0 0 rfl rfl)
theorem dX8_passes_1 : decode cX8_passes 1 = .ok (.iload_n 1, 1) := dk_27 (dk_at dksX8_passes_0 1 rfl rfl)
theorem dX8_passes_2 : decode cX8_passes 2 = .ok (.iconst 0, 1) := dk_3 (dk_at dksX8_passes_0 2 rfl rfl)
theorem dX8_passes_3 : decode cX8_passes 3 = .ok (.sipush 255, 3) := dk_17 0 255 (dk_at dksX8_passes_0 3 rfl rfl)
theorem dX8_passes_6 : decode cX8_passes 6 = .ok (.invokestatic 53, 3) := dk_184 0 53 (dk_at dksX8_passes_0 6 rfl rfl)
theorem dX8_passes_9 : decode cX8_passes 9 = .ok (.ifCond .eq 13, 3) := dk_153 0 13 (dk_at dksX8_passes_0 9 rfl rfl)
theorem dX8_passes_12 : decode cX8_passes 12 = .ok (.iload_n 2, 1) := dk_28 (dk_at dksX8_passes_0 12 rfl rfl)
theorem dX8_passes_13 : decode cX8_passes 13 = .ok (.iconst 0, 1) := dk_3 (dk_at dksX8_passes_0 13 rfl rfl)
theorem dX8_passes_14 : decode cX8_passes 14 = .ok (.bipush 8, 2) := dk_16 8 (dk_at dksX8_passes_0 14 rfl rfl)
theorem dX8_passes_16 : decode cX8_passes 16 = .ok (.invokestatic 53, 3) := dk_184 0 53 (dk_at dksX8_passes_0 16 rfl rfl)
theorem dX8_passes_19 : decode cX8_passes 19 = .ok (.ifCond .ne 7, 3) := dk_154 0 7 (dk_at dksX8_passes_0 19 rfl rfl)
theorem dX8_passes_22 : decode cX8_passes 22 = .ok (.iconst 1, 1) := dk_4 (dk_at dksX8_passes_0 22 rfl rfl)
theorem dX8_passes_23 : decode cX8_passes 23 = .ok (.goto 4, 3) := dk_167 0 4 (dk_at dksX8_passes_1 0 rfl rfl)
theorem dX8_passes_26 : decode cX8_passes 26 = .ok (.iconst 0, 1) := dk_3 (dk_at dksX8_passes_1 3 rfl rfl)
theorem dX8_passes_27 : decode cX8_passes 27 = .ok (.putfield 50, 3) := dk_181 0 50 (dk_at dksX8_passes_1 4 rfl rfl)
theorem dX8_passes_30 : decode cX8_passes 30 = .ok (.aload_n 0, 1) := dk_42 (dk_at dksX8_passes_1 7 rfl rfl)
theorem dX8_passes_31 : decode cX8_passes 31 = .ok (.getfield 50, 3) := dk_180 0 50 (dk_at dksX8_passes_1 8 rfl rfl)
theorem dX8_passes_34 : decode cX8_passes 34 = .ok (.ifCond .le 5, 3) := dk_158 0 5 (dk_at dksX8_passes_1 11 rfl rfl)
theorem dX8_passes_37 : decode cX8_passes 37 = .ok (.iconst 0, 1) := dk_3 (dk_at dksX8_passes_1 14 rfl rfl)
theorem dX8_passes_38 : decode cX8_passes 38 = .ok (.ireturn, 1) := dk_172 (dk_at dksX8_passes_1 15 rfl rfl)
theorem dX8_passes_39 : decode cX8_passes 39 = .ok (.iconst 0, 1) := dk_3 (dk_at dksX8_passes_1 16 rfl rfl)
theorem dX8_passes_40 : decode cX8_passes 40 = .ok (.istore_n 3, 1) := dk_62 (dk_at dksX8_passes_1 17 rfl rfl)
theorem dX8_passes_41 : decode cX8_passes 41 = .ok (.iconst 0, 1) := dk_3 (dk_at dksX8_passes_1 18 rfl rfl)
theorem dX8_passes_42 : decode cX8_passes 42 = .ok (.istore 4, 2) := dk_54 4 (dk_at dksX8_passes_1 19 rfl rfl)
theorem dX8_passes_44 : decode cX8_passes 44 = .ok (.iload 4, 2) := dk_21 4 (dk_at dksX8_passes_1 21 rfl rfl)
theorem dX8_passes_46 : decode cX8_passes 46 = .ok (.aload_n 0, 1) := dk_42 (dk_at dksX8_passes_1 23 rfl rfl)
theorem dX8_passes_47 : decode cX8_passes 47 = .ok (.getfield 7, 3) := dk_180 0 7 (dk_at dksX8_passes_2 0 rfl rfl)
theorem dX8_passes_50 : decode cX8_passes 50 = .ok (.iconst 3, 1) := dk_6 (dk_at dksX8_passes_2 3 rfl rfl)
theorem dX8_passes_51 : decode cX8_passes 51 = .ok (.iaload, 1) := dk_46 (dk_at dksX8_passes_2 4 rfl rfl)
theorem dX8_passes_52 : decode cX8_passes 52 = .ok (.if_icmp .ge 36, 3) := dk_162 0 36 (dk_at dksX8_passes_2 5 rfl rfl)
theorem dX8_passes_55 : decode cX8_passes 55 = .ok (.iload_n 3, 1) := dk_29 (dk_at dksX8_passes_2 8 rfl rfl)
theorem dX8_passes_56 : decode cX8_passes 56 = .ok (.aload_n 0, 1) := dk_42 (dk_at dksX8_passes_2 9 rfl rfl)
theorem dX8_passes_57 : decode cX8_passes 57 = .ok (.iload 4, 2) := dk_21 4 (dk_at dksX8_passes_2 10 rfl rfl)
theorem dX8_passes_59 : decode cX8_passes 59 = .ok (.iconst 0, 1) := dk_3 (dk_at dksX8_passes_2 12 rfl rfl)
theorem dX8_passes_60 : decode cX8_passes 60 = .ok (.invokevirtual 57, 3) := dk_182 0 57 (dk_at dksX8_passes_2 13 rfl rfl)
theorem dX8_passes_63 : decode cX8_passes 63 = .ok (.iload_n 1, 1) := dk_27 (dk_at dksX8_passes_2 16 rfl rfl)
theorem dX8_passes_64 : decode cX8_passes 64 = .ok (.ixor, 1) := dk_130 (dk_at dksX8_passes_2 17 rfl rfl)
theorem dX8_passes_65 : decode cX8_passes 65 = .ok (.invokestatic 242, 3) := dk_184 0 242 (dk_at dksX8_passes_2 18 rfl rfl)
theorem dX8_passes_68 : decode cX8_passes 68 = .ok (.iload_n 2, 1) := dk_28 (dk_at dksX8_passes_2 21 rfl rfl)
theorem dX8_passes_69 : decode cX8_passes 69 = .ok (.if_icmp .gt 10, 3) := dk_163 0 10 (dk_at dksX8_passes_3 0 rfl rfl)
theorem dX8_passes_72 : decode cX8_passes 72 = .ok (.iconst 1, 1) := dk_4 (dk_at dksX8_passes_3 3 rfl rfl)
theorem dX8_passes_73 : decode cX8_passes 73 = .ok (.iload 4, 2) := dk_21 4 (dk_at dksX8_passes_3 4 rfl rfl)
theorem dX8_passes_75 : decode cX8_passes 75 = .ok (.ishl, 1) := dk_120 (dk_at dksX8_passes_3 6 rfl rfl)
theorem dX8_passes_76 : decode cX8_passes 76 = .ok (.goto 4, 3) := dk_167 0 4 (dk_at dksX8_passes_3 7 rfl rfl)
theorem dX8_passes_79 : decode cX8_passes 79 = .ok (.iconst 0, 1) := dk_3 (dk_at dksX8_passes_3 10 rfl rfl)
theorem dX8_passes_80 : decode cX8_passes 80 = .ok (.ior, 1) := dk_128 (dk_at dksX8_passes_3 11 rfl rfl)
theorem dX8_passes_81 : decode cX8_passes 81 = .ok (.istore_n 3, 1) := dk_62 (dk_at dksX8_passes_3 12 rfl rfl)
theorem dX8_passes_82 : decode cX8_passes 82 = .ok (.iinc 4 1, 3) := dk_132 4 1 (dk_at dksX8_passes_3 13 rfl rfl)
theorem dX8_passes_85 : decode cX8_passes 85 = .ok (.goto (-41), 3) := dk_167 255 215 (dk_at dksX8_passes_3 16 rfl rfl)
theorem dX8_passes_88 : decode cX8_passes 88 = .ok (.iload_n 3, 1) := dk_29 (dk_at dksX8_passes_3 19 rfl rfl)
theorem dX8_passes_89 : decode cX8_passes 89 = .ok (.ireturn, 1) := dk_172 (dk_at dksX8_passes_3 20 rfl rfl)
abbrev cX8_core : ByteArray := prog_21_method_95_code
def yX8_core : MethodName := ⟨RX8, "core", "(I)I"⟩
def dkwX8_core_1 : List UInt8 := [3, 172, 42, 182, 1, 79, 42, 180, 0, 41, 27, 46, 172]
abbrev dktX8_core_1 : List UInt8 := dkwX8_core_1 ++ []
def dkwX8_core_0 : List UInt8 := [42, 42, 27, 182, 0, 250, 154, 0, 7, 4, 167, 0, 4, 3, 181, 0, 50, 42, 180, 0, 50, 158, 0, 5]
abbrev dktX8_core_0 : List UInt8 := dkwX8_core_0 ++ dktX8_core_1
theorem dksX8_core_0 : cX8_core.data.toList.drop 0 = dktX8_core_0 := by decide +kernel
theorem dksX8_core_1 : cX8_core.data.toList.drop 24 = dktX8_core_1 := dk_seg dksX8_core_0 24 rfl rfl
theorem dX8_core_0 : decode cX8_core 0 = .ok (.aload_n 0, 1) := dk_42 (dk_at dksX8_core_0 0 rfl rfl)
theorem dX8_core_1 : decode cX8_core 1 = .ok (.aload_n 0, 1) := dk_42 (dk_at dksX8_core_0 1 rfl rfl)
theorem dX8_core_2 : decode cX8_core 2 = .ok (.iload_n 1, 1) := dk_27 (dk_at dksX8_core_0 2 rfl rfl)
theorem dX8_core_3 : decode cX8_core 3 = .ok (.invokevirtual 250, 3) := dk_182 0 250 (dk_at dksX8_core_0 3 rfl rfl)
theorem dX8_core_6 : decode cX8_core 6 = .ok (.ifCond .ne 7, 3) := dk_154 0 7 (dk_at dksX8_core_0 6 rfl rfl)
theorem dX8_core_9 : decode cX8_core 9 = .ok (.iconst 1, 1) := dk_4 (dk_at dksX8_core_0 9 rfl rfl)
theorem dX8_core_10 : decode cX8_core 10 = .ok (.goto 4, 3) := dk_167 0 4 (dk_at dksX8_core_0 10 rfl rfl)
theorem dX8_core_13 : decode cX8_core 13 = .ok (.iconst 0, 1) := dk_3 (dk_at dksX8_core_0 13 rfl rfl)
theorem dX8_core_14 : decode cX8_core 14 = .ok (.putfield 50, 3) := dk_181 0 50 (dk_at dksX8_core_0 14 rfl rfl)
theorem dX8_core_17 : decode cX8_core 17 = .ok (.aload_n 0, 1) := dk_42 (dk_at dksX8_core_0 17 rfl rfl)
theorem dX8_core_18 : decode cX8_core 18 = .ok (.getfield 50, 3) := dk_180 0 50 (dk_at dksX8_core_0 18 rfl rfl)
theorem dX8_core_21 : decode cX8_core 21 = .ok (.ifCond .le 5, 3) := dk_158 0 5 (dk_at dksX8_core_0 21 rfl rfl)
theorem dX8_core_24 : decode cX8_core 24 = .ok (.iconst 0, 1) := dk_3 (dk_at dksX8_core_1 0 rfl rfl)
theorem dX8_core_25 : decode cX8_core 25 = .ok (.ireturn, 1) := dk_172 (dk_at dksX8_core_1 1 rfl rfl)
theorem dX8_core_26 : decode cX8_core 26 = .ok (.aload_n 0, 1) := dk_42 (dk_at dksX8_core_1 2 rfl rfl)
theorem dX8_core_27 : decode cX8_core 27 = .ok (.invokevirtual 335, 3) := dk_182 1 79 (dk_at dksX8_core_1 3 rfl rfl)
theorem dX8_core_30 : decode cX8_core 30 = .ok (.aload_n 0, 1) := dk_42 (dk_at dksX8_core_1 6 rfl rfl)
theorem dX8_core_31 : decode cX8_core 31 = .ok (.getfield 41, 3) := dk_180 0 41 (dk_at dksX8_core_1 7 rfl rfl)
theorem dX8_core_34 : decode cX8_core 34 = .ok (.iload_n 1, 1) := dk_27 (dk_at dksX8_core_1 10 rfl rfl)
theorem dX8_core_35 : decode cX8_core 35 = .ok (.iaload, 1) := dk_46 (dk_at dksX8_core_1 11 rfl rfl)
theorem dX8_core_36 : decode cX8_core 36 = .ok (.ireturn, 1) := dk_172 (dk_at dksX8_core_1 12 rfl rfl)
abbrev cX8_trades : ByteArray := prog_21_method_94_code
def yX8_trades : MethodName := ⟨RX8, "trades", "()V"⟩
def dkwX8_trades_6 : List UInt8 := [60, 167, 255, 159, 177]
abbrev dktX8_trades_6 : List UInt8 := dkwX8_trades_6 ++ []
def dkwX8_trades_5 : List UInt8 := [182, 1, 76, 5, 182, 0, 57, 79, 42, 28, 27, 182, 1, 76, 61, 167, 255, 215, 27, 21, 4, 2, 130, 126]
abbrev dktX8_trades_5 : List UInt8 := dkwX8_trades_5 ++ dktX8_trades_6
def dkwX8_trades_4 : List UInt8 := [184, 0, 107, 154, 0, 38, 21, 4, 4, 28, 120, 128, 54, 4, 42, 180, 0, 41, 28, 42, 42, 28, 27]
abbrev dktX8_trades_4 : List UInt8 := dkwX8_trades_4 ++ dktX8_trades_5
def dkwX8_trades_3 : List UInt8 := [162, 0, 16, 42, 28, 27, 182, 1, 76, 61, 132, 3, 1, 167, 255, 240, 28, 62, 3, 54, 4, 21, 4, 28]
abbrev dktX8_trades_3 : List UInt8 := dkwX8_trades_3 ++ dktX8_trades_4
def dkwX8_trades_2 : List UInt8 := [153, 0, 99, 3, 61, 27, 28, 184, 0, 107, 154, 0, 9, 132, 2, 1, 167, 255, 245, 3, 62, 29, 16, 10]
abbrev dktX8_trades_2 : List UInt8 := dkwX8_trades_2 ++ dktX8_trades_3
def dkwX8_trades_1 : List UInt8 := [5, 182, 0, 57, 2, 160, 0, 7, 3, 167, 0, 6, 4, 28, 120, 128, 60, 132, 2, 1, 167, 255, 216, 27]
abbrev dktX8_trades_1 : List UInt8 := dkwX8_trades_1 ++ dktX8_trades_2
def dkwX8_trades_0 : List UInt8 := [3, 60, 3, 61, 28, 42, 180, 0, 7, 6, 46, 162, 0, 36, 42, 180, 0, 41, 28, 2, 79, 27, 42, 28]
abbrev dktX8_trades_0 : List UInt8 := dkwX8_trades_0 ++ dktX8_trades_1
theorem dksX8_trades_0 : cX8_trades.data.toList.drop 0 = dktX8_trades_0 := by decide +kernel
theorem dksX8_trades_1 : cX8_trades.data.toList.drop 24 = dktX8_trades_1 := dk_seg dksX8_trades_0 24 rfl rfl
theorem dksX8_trades_2 : cX8_trades.data.toList.drop 48 = dktX8_trades_2 := dk_seg dksX8_trades_1 24 rfl rfl
theorem dksX8_trades_3 : cX8_trades.data.toList.drop 72 = dktX8_trades_3 := dk_seg dksX8_trades_2 24 rfl rfl
theorem dksX8_trades_4 : cX8_trades.data.toList.drop 96 = dktX8_trades_4 := dk_seg dksX8_trades_3 24 rfl rfl
theorem dksX8_trades_5 : cX8_trades.data.toList.drop 119 = dktX8_trades_5 := dk_seg dksX8_trades_4 23 rfl rfl
theorem dksX8_trades_6 : cX8_trades.data.toList.drop 143 = dktX8_trades_6 := dk_seg dksX8_trades_5 24 rfl rfl
theorem dX8_trades_0 : decode cX8_trades 0 = .ok (.iconst 0, 1) := dk_3 (dk_at dksX8_trades_0 0 rfl rfl)
theorem dX8_trades_1 : decode cX8_trades 1 = .ok (.istore_n 1, 1) := dk_60 (dk_at dksX8_trades_0 1 rfl rfl)
theorem dX8_trades_2 : decode cX8_trades 2 = .ok (.iconst 0, 1) := dk_3 (dk_at dksX8_trades_0 2 rfl rfl)
theorem dX8_trades_3 : decode cX8_trades 3 = .ok (.istore_n 2, 1) := dk_61 (dk_at dksX8_trades_0 3 rfl rfl)
theorem dX8_trades_4 : decode cX8_trades 4 = .ok (.iload_n 2, 1) := dk_28 (dk_at dksX8_trades_0 4 rfl rfl)
theorem dX8_trades_5 : decode cX8_trades 5 = .ok (.aload_n 0, 1) := dk_42 (dk_at dksX8_trades_0 5 rfl rfl)
theorem dX8_trades_6 : decode cX8_trades 6 = .ok (.getfield 7, 3) := dk_180 0 7 (dk_at dksX8_trades_0 6 rfl rfl)
theorem dX8_trades_9 : decode cX8_trades 9 = .ok (.iconst 3, 1) := dk_6 (dk_at dksX8_trades_0 9 rfl rfl)
theorem dX8_trades_10 : decode cX8_trades 10 = .ok (.iaload, 1) := dk_46 (dk_at dksX8_trades_0 10 rfl rfl)
theorem dX8_trades_11 : decode cX8_trades 11 = .ok (.if_icmp .ge 36, 3) := dk_162 0 36 (dk_at dksX8_trades_0 11 rfl rfl)
theorem dX8_trades_14 : decode cX8_trades 14 = .ok (.aload_n 0, 1) := dk_42 (dk_at dksX8_trades_0 14 rfl rfl)
theorem dX8_trades_15 : decode cX8_trades 15 = .ok (.getfield 41, 3) := dk_180 0 41 (dk_at dksX8_trades_0 15 rfl rfl)
theorem dX8_trades_18 : decode cX8_trades 18 = .ok (.iload_n 2, 1) := dk_28 (dk_at dksX8_trades_0 18 rfl rfl)
theorem dX8_trades_19 : decode cX8_trades 19 = .ok (.iconst (-1), 1) := dk_2 (dk_at dksX8_trades_0 19 rfl rfl)
theorem dX8_trades_20 : decode cX8_trades 20 = .ok (.iastore, 1) := dk_79 (dk_at dksX8_trades_0 20 rfl rfl)
theorem dX8_trades_21 : decode cX8_trades 21 = .ok (.iload_n 1, 1) := dk_27 (dk_at dksX8_trades_0 21 rfl rfl)
theorem dX8_trades_22 : decode cX8_trades 22 = .ok (.aload_n 0, 1) := dk_42 (dk_at dksX8_trades_0 22 rfl rfl)
theorem dX8_trades_23 : decode cX8_trades 23 = .ok (.iload_n 2, 1) := dk_28 (dk_at dksX8_trades_0 23 rfl rfl)
theorem dX8_trades_24 : decode cX8_trades 24 = .ok (.iconst 2, 1) := dk_5 (dk_at dksX8_trades_1 0 rfl rfl)
theorem dX8_trades_25 : decode cX8_trades 25 = .ok (.invokevirtual 57, 3) := dk_182 0 57 (dk_at dksX8_trades_1 1 rfl rfl)
theorem dX8_trades_28 : decode cX8_trades 28 = .ok (.iconst (-1), 1) := dk_2 (dk_at dksX8_trades_1 4 rfl rfl)
theorem dX8_trades_29 : decode cX8_trades 29 = .ok (.if_icmp .ne 7, 3) := dk_160 0 7 (dk_at dksX8_trades_1 5 rfl rfl)
theorem dX8_trades_32 : decode cX8_trades 32 = .ok (.iconst 0, 1) := dk_3 (dk_at dksX8_trades_1 8 rfl rfl)
theorem dX8_trades_33 : decode cX8_trades 33 = .ok (.goto 6, 3) := dk_167 0 6 (dk_at dksX8_trades_1 9 rfl rfl)
theorem dX8_trades_36 : decode cX8_trades 36 = .ok (.iconst 1, 1) := dk_4 (dk_at dksX8_trades_1 12 rfl rfl)
theorem dX8_trades_37 : decode cX8_trades 37 = .ok (.iload_n 2, 1) := dk_28 (dk_at dksX8_trades_1 13 rfl rfl)
theorem dX8_trades_38 : decode cX8_trades 38 = .ok (.ishl, 1) := dk_120 (dk_at dksX8_trades_1 14 rfl rfl)
theorem dX8_trades_39 : decode cX8_trades 39 = .ok (.ior, 1) := dk_128 (dk_at dksX8_trades_1 15 rfl rfl)
theorem dX8_trades_40 : decode cX8_trades 40 = .ok (.istore_n 1, 1) := dk_60 (dk_at dksX8_trades_1 16 rfl rfl)
theorem dX8_trades_41 : decode cX8_trades 41 = .ok (.iinc 2 1, 3) := dk_132 2 1 (dk_at dksX8_trades_1 17 rfl rfl)
theorem dX8_trades_44 : decode cX8_trades 44 = .ok (.goto (-40), 3) := dk_167 255 216 (dk_at dksX8_trades_1 20 rfl rfl)
theorem dX8_trades_47 : decode cX8_trades 47 = .ok (.iload_n 1, 1) := dk_27 (dk_at dksX8_trades_1 23 rfl rfl)
theorem dX8_trades_48 : decode cX8_trades 48 = .ok (.ifCond .eq 99, 3) := dk_153 0 99 (dk_at dksX8_trades_2 0 rfl rfl)
theorem dX8_trades_51 : decode cX8_trades 51 = .ok (.iconst 0, 1) := dk_3 (dk_at dksX8_trades_2 3 rfl rfl)
theorem dX8_trades_52 : decode cX8_trades 52 = .ok (.istore_n 2, 1) := dk_61 (dk_at dksX8_trades_2 4 rfl rfl)
theorem dX8_trades_53 : decode cX8_trades 53 = .ok (.iload_n 1, 1) := dk_27 (dk_at dksX8_trades_2 5 rfl rfl)
theorem dX8_trades_54 : decode cX8_trades 54 = .ok (.iload_n 2, 1) := dk_28 (dk_at dksX8_trades_2 6 rfl rfl)
theorem dX8_trades_55 : decode cX8_trades 55 = .ok (.invokestatic 107, 3) := dk_184 0 107 (dk_at dksX8_trades_2 7 rfl rfl)
theorem dX8_trades_58 : decode cX8_trades 58 = .ok (.ifCond .ne 9, 3) := dk_154 0 9 (dk_at dksX8_trades_2 10 rfl rfl)
theorem dX8_trades_61 : decode cX8_trades 61 = .ok (.iinc 2 1, 3) := dk_132 2 1 (dk_at dksX8_trades_2 13 rfl rfl)
theorem dX8_trades_64 : decode cX8_trades 64 = .ok (.goto (-11), 3) := dk_167 255 245 (dk_at dksX8_trades_2 16 rfl rfl)
theorem dX8_trades_67 : decode cX8_trades 67 = .ok (.iconst 0, 1) := dk_3 (dk_at dksX8_trades_2 19 rfl rfl)
theorem dX8_trades_68 : decode cX8_trades 68 = .ok (.istore_n 3, 1) := dk_62 (dk_at dksX8_trades_2 20 rfl rfl)
theorem dX8_trades_69 : decode cX8_trades 69 = .ok (.iload_n 3, 1) := dk_29 (dk_at dksX8_trades_2 21 rfl rfl)
theorem dX8_trades_70 : decode cX8_trades 70 = .ok (.bipush 10, 2) := dk_16 10 (dk_at dksX8_trades_2 22 rfl rfl)
theorem dX8_trades_72 : decode cX8_trades 72 = .ok (.if_icmp .ge 16, 3) := dk_162 0 16 (dk_at dksX8_trades_3 0 rfl rfl)
theorem dX8_trades_75 : decode cX8_trades 75 = .ok (.aload_n 0, 1) := dk_42 (dk_at dksX8_trades_3 3 rfl rfl)
theorem dX8_trades_76 : decode cX8_trades 76 = .ok (.iload_n 2, 1) := dk_28 (dk_at dksX8_trades_3 4 rfl rfl)
theorem dX8_trades_77 : decode cX8_trades 77 = .ok (.iload_n 1, 1) := dk_27 (dk_at dksX8_trades_3 5 rfl rfl)
theorem dX8_trades_78 : decode cX8_trades 78 = .ok (.invokevirtual 332, 3) := dk_182 1 76 (dk_at dksX8_trades_3 6 rfl rfl)
theorem dX8_trades_81 : decode cX8_trades 81 = .ok (.istore_n 2, 1) := dk_61 (dk_at dksX8_trades_3 9 rfl rfl)
theorem dX8_trades_82 : decode cX8_trades 82 = .ok (.iinc 3 1, 3) := dk_132 3 1 (dk_at dksX8_trades_3 10 rfl rfl)
theorem dX8_trades_85 : decode cX8_trades 85 = .ok (.goto (-16), 3) := dk_167 255 240 (dk_at dksX8_trades_3 13 rfl rfl)
theorem dX8_trades_88 : decode cX8_trades 88 = .ok (.iload_n 2, 1) := dk_28 (dk_at dksX8_trades_3 16 rfl rfl)
theorem dX8_trades_89 : decode cX8_trades 89 = .ok (.istore_n 3, 1) := dk_62 (dk_at dksX8_trades_3 17 rfl rfl)
theorem dX8_trades_90 : decode cX8_trades 90 = .ok (.iconst 0, 1) := dk_3 (dk_at dksX8_trades_3 18 rfl rfl)
theorem dX8_trades_91 : decode cX8_trades 91 = .ok (.istore 4, 2) := dk_54 4 (dk_at dksX8_trades_3 19 rfl rfl)
theorem dX8_trades_93 : decode cX8_trades 93 = .ok (.iload 4, 2) := dk_21 4 (dk_at dksX8_trades_3 21 rfl rfl)
theorem dX8_trades_95 : decode cX8_trades 95 = .ok (.iload_n 2, 1) := dk_28 (dk_at dksX8_trades_3 23 rfl rfl)
theorem dX8_trades_96 : decode cX8_trades 96 = .ok (.invokestatic 107, 3) := dk_184 0 107 (dk_at dksX8_trades_4 0 rfl rfl)
theorem dX8_trades_99 : decode cX8_trades 99 = .ok (.ifCond .ne 38, 3) := dk_154 0 38 (dk_at dksX8_trades_4 3 rfl rfl)
theorem dX8_trades_102 : decode cX8_trades 102 = .ok (.iload 4, 2) := dk_21 4 (dk_at dksX8_trades_4 6 rfl rfl)
theorem dX8_trades_104 : decode cX8_trades 104 = .ok (.iconst 1, 1) := dk_4 (dk_at dksX8_trades_4 8 rfl rfl)
theorem dX8_trades_105 : decode cX8_trades 105 = .ok (.iload_n 2, 1) := dk_28 (dk_at dksX8_trades_4 9 rfl rfl)
theorem dX8_trades_106 : decode cX8_trades 106 = .ok (.ishl, 1) := dk_120 (dk_at dksX8_trades_4 10 rfl rfl)
theorem dX8_trades_107 : decode cX8_trades 107 = .ok (.ior, 1) := dk_128 (dk_at dksX8_trades_4 11 rfl rfl)
theorem dX8_trades_108 : decode cX8_trades 108 = .ok (.istore 4, 2) := dk_54 4 (dk_at dksX8_trades_4 12 rfl rfl)
theorem dX8_trades_110 : decode cX8_trades 110 = .ok (.aload_n 0, 1) := dk_42 (dk_at dksX8_trades_4 14 rfl rfl)
theorem dX8_trades_111 : decode cX8_trades 111 = .ok (.getfield 41, 3) := dk_180 0 41 (dk_at dksX8_trades_4 15 rfl rfl)
theorem dX8_trades_114 : decode cX8_trades 114 = .ok (.iload_n 2, 1) := dk_28 (dk_at dksX8_trades_4 18 rfl rfl)
theorem dX8_trades_115 : decode cX8_trades 115 = .ok (.aload_n 0, 1) := dk_42 (dk_at dksX8_trades_4 19 rfl rfl)
theorem dX8_trades_116 : decode cX8_trades 116 = .ok (.aload_n 0, 1) := dk_42 (dk_at dksX8_trades_4 20 rfl rfl)
theorem dX8_trades_117 : decode cX8_trades 117 = .ok (.iload_n 2, 1) := dk_28 (dk_at dksX8_trades_4 21 rfl rfl)
theorem dX8_trades_118 : decode cX8_trades 118 = .ok (.iload_n 1, 1) := dk_27 (dk_at dksX8_trades_4 22 rfl rfl)
theorem dX8_trades_119 : decode cX8_trades 119 = .ok (.invokevirtual 332, 3) := dk_182 1 76 (dk_at dksX8_trades_5 0 rfl rfl)
theorem dX8_trades_122 : decode cX8_trades 122 = .ok (.iconst 2, 1) := dk_5 (dk_at dksX8_trades_5 3 rfl rfl)
theorem dX8_trades_123 : decode cX8_trades 123 = .ok (.invokevirtual 57, 3) := dk_182 0 57 (dk_at dksX8_trades_5 4 rfl rfl)
theorem dX8_trades_126 : decode cX8_trades 126 = .ok (.iastore, 1) := dk_79 (dk_at dksX8_trades_5 7 rfl rfl)
theorem dX8_trades_127 : decode cX8_trades 127 = .ok (.aload_n 0, 1) := dk_42 (dk_at dksX8_trades_5 8 rfl rfl)
theorem dX8_trades_128 : decode cX8_trades 128 = .ok (.iload_n 2, 1) := dk_28 (dk_at dksX8_trades_5 9 rfl rfl)
theorem dX8_trades_129 : decode cX8_trades 129 = .ok (.iload_n 1, 1) := dk_27 (dk_at dksX8_trades_5 10 rfl rfl)
theorem dX8_trades_130 : decode cX8_trades 130 = .ok (.invokevirtual 332, 3) := dk_182 1 76 (dk_at dksX8_trades_5 11 rfl rfl)
theorem dX8_trades_133 : decode cX8_trades 133 = .ok (.istore_n 2, 1) := dk_61 (dk_at dksX8_trades_5 14 rfl rfl)
theorem dX8_trades_134 : decode cX8_trades 134 = .ok (.goto (-41), 3) := dk_167 255 215 (dk_at dksX8_trades_5 15 rfl rfl)
theorem dX8_trades_137 : decode cX8_trades 137 = .ok (.iload_n 1, 1) := dk_27 (dk_at dksX8_trades_5 18 rfl rfl)
theorem dX8_trades_138 : decode cX8_trades 138 = .ok (.iload 4, 2) := dk_21 4 (dk_at dksX8_trades_5 19 rfl rfl)
theorem dX8_trades_140 : decode cX8_trades 140 = .ok (.iconst (-1), 1) := dk_2 (dk_at dksX8_trades_5 21 rfl rfl)
theorem dX8_trades_141 : decode cX8_trades 141 = .ok (.ixor, 1) := dk_130 (dk_at dksX8_trades_5 22 rfl rfl)
theorem dX8_trades_142 : decode cX8_trades 142 = .ok (.iand, 1) := dk_126 (dk_at dksX8_trades_5 23 rfl rfl)
theorem dX8_trades_143 : decode cX8_trades 143 = .ok (.istore_n 1, 1) := dk_60 (dk_at dksX8_trades_6 0 rfl rfl)
theorem dX8_trades_144 : decode cX8_trades 144 = .ok (.goto (-97), 3) := dk_167 255 159 (dk_at dksX8_trades_6 1 rfl rfl)
theorem dX8_trades_147 : decode cX8_trades 147 = .ok (.return_, 1) := dk_177 (dk_at dksX8_trades_6 4 rfl rfl)
abbrev cX8_pointsTo : ByteArray := prog_21_method_93_code
def yX8_pointsTo : MethodName := ⟨RX8, "pointsTo", "(II)I"⟩
def dkwX8_pointsTo_2 : List UInt8 := [5, 182, 0, 57, 182, 1, 73, 162, 0, 6, 21, 4, 62, 132, 4, 1, 167, 255, 199, 29, 172]
abbrev dktX8_pointsTo_2 : List UInt8 := dkwX8_pointsTo_2 ++ []
def dkwX8_pointsTo_1 : List UInt8 := [153, 0, 37, 29, 2, 159, 0, 29, 42, 27, 42, 21, 4, 5, 182, 0, 57, 182, 1, 73, 42, 27, 42, 29]
abbrev dktX8_pointsTo_1 : List UInt8 := dkwX8_pointsTo_1 ++ dktX8_pointsTo_2
def dkwX8_pointsTo_0 : List UInt8 := [2, 62, 3, 54, 4, 21, 4, 42, 180, 0, 7, 6, 46, 162, 0, 52, 28, 21, 4, 184, 0, 107]
abbrev dktX8_pointsTo_0 : List UInt8 := dkwX8_pointsTo_0 ++ dktX8_pointsTo_1
theorem dksX8_pointsTo_0 : cX8_pointsTo.data.toList.drop 0 = dktX8_pointsTo_0 := by decide +kernel
theorem dksX8_pointsTo_1 : cX8_pointsTo.data.toList.drop 22 = dktX8_pointsTo_1 := dk_seg dksX8_pointsTo_0 22 rfl rfl
theorem dksX8_pointsTo_2 : cX8_pointsTo.data.toList.drop 46 = dktX8_pointsTo_2 := dk_seg dksX8_pointsTo_1 24 rfl rfl
theorem dX8_pointsTo_0 : decode cX8_pointsTo 0 = .ok (.iconst (-1), 1) := dk_2 (dk_at dksX8_pointsTo_0 0 rfl rfl)
theorem dX8_pointsTo_1 : decode cX8_pointsTo 1 = .ok (.istore_n 3, 1) := dk_62 (dk_at dksX8_pointsTo_0 1 rfl rfl)
theorem dX8_pointsTo_2 : decode cX8_pointsTo 2 = .ok (.iconst 0, 1) := dk_3 (dk_at dksX8_pointsTo_0 2 rfl rfl)
theorem dX8_pointsTo_3 : decode cX8_pointsTo 3 = .ok (.istore 4, 2) := dk_54 4 (dk_at dksX8_pointsTo_0 3 rfl rfl)
theorem dX8_pointsTo_5 : decode cX8_pointsTo 5 = .ok (.iload 4, 2) := dk_21 4 (dk_at dksX8_pointsTo_0 5 rfl rfl)
theorem dX8_pointsTo_7 : decode cX8_pointsTo 7 = .ok (.aload_n 0, 1) := dk_42 (dk_at dksX8_pointsTo_0 7 rfl rfl)
theorem dX8_pointsTo_8 : decode cX8_pointsTo 8 = .ok (.getfield 7, 3) := dk_180 0 7 (dk_at dksX8_pointsTo_0 8 rfl rfl)
theorem dX8_pointsTo_11 : decode cX8_pointsTo 11 = .ok (.iconst 3, 1) := dk_6 (dk_at dksX8_pointsTo_0 11 rfl rfl)
theorem dX8_pointsTo_12 : decode cX8_pointsTo 12 = .ok (.iaload, 1) := dk_46 (dk_at dksX8_pointsTo_0 12 rfl rfl)
theorem dX8_pointsTo_13 : decode cX8_pointsTo 13 = .ok (.if_icmp .ge 52, 3) := dk_162 0 52 (dk_at dksX8_pointsTo_0 13 rfl rfl)
theorem dX8_pointsTo_16 : decode cX8_pointsTo 16 = .ok (.iload_n 2, 1) := dk_28 (dk_at dksX8_pointsTo_0 16 rfl rfl)
theorem dX8_pointsTo_17 : decode cX8_pointsTo 17 = .ok (.iload 4, 2) := dk_21 4 (dk_at dksX8_pointsTo_0 17 rfl rfl)
theorem dX8_pointsTo_19 : decode cX8_pointsTo 19 = .ok (.invokestatic 107, 3) := dk_184 0 107 (dk_at dksX8_pointsTo_0 19 rfl rfl)
theorem dX8_pointsTo_22 : decode cX8_pointsTo 22 = .ok (.ifCond .eq 37, 3) := dk_153 0 37 (dk_at dksX8_pointsTo_1 0 rfl rfl)
theorem dX8_pointsTo_25 : decode cX8_pointsTo 25 = .ok (.iload_n 3, 1) := dk_29 (dk_at dksX8_pointsTo_1 3 rfl rfl)
theorem dX8_pointsTo_26 : decode cX8_pointsTo 26 = .ok (.iconst (-1), 1) := dk_2 (dk_at dksX8_pointsTo_1 4 rfl rfl)
theorem dX8_pointsTo_27 : decode cX8_pointsTo 27 = .ok (.if_icmp .eq 29, 3) := dk_159 0 29 (dk_at dksX8_pointsTo_1 5 rfl rfl)
theorem dX8_pointsTo_30 : decode cX8_pointsTo 30 = .ok (.aload_n 0, 1) := dk_42 (dk_at dksX8_pointsTo_1 8 rfl rfl)
theorem dX8_pointsTo_31 : decode cX8_pointsTo 31 = .ok (.iload_n 1, 1) := dk_27 (dk_at dksX8_pointsTo_1 9 rfl rfl)
theorem dX8_pointsTo_32 : decode cX8_pointsTo 32 = .ok (.aload_n 0, 1) := dk_42 (dk_at dksX8_pointsTo_1 10 rfl rfl)
theorem dX8_pointsTo_33 : decode cX8_pointsTo 33 = .ok (.iload 4, 2) := dk_21 4 (dk_at dksX8_pointsTo_1 11 rfl rfl)
theorem dX8_pointsTo_35 : decode cX8_pointsTo 35 = .ok (.iconst 2, 1) := dk_5 (dk_at dksX8_pointsTo_1 13 rfl rfl)
theorem dX8_pointsTo_36 : decode cX8_pointsTo 36 = .ok (.invokevirtual 57, 3) := dk_182 0 57 (dk_at dksX8_pointsTo_1 14 rfl rfl)
theorem dX8_pointsTo_39 : decode cX8_pointsTo 39 = .ok (.invokevirtual 329, 3) := dk_182 1 73 (dk_at dksX8_pointsTo_1 17 rfl rfl)
theorem dX8_pointsTo_42 : decode cX8_pointsTo 42 = .ok (.aload_n 0, 1) := dk_42 (dk_at dksX8_pointsTo_1 20 rfl rfl)
theorem dX8_pointsTo_43 : decode cX8_pointsTo 43 = .ok (.iload_n 1, 1) := dk_27 (dk_at dksX8_pointsTo_1 21 rfl rfl)
theorem dX8_pointsTo_44 : decode cX8_pointsTo 44 = .ok (.aload_n 0, 1) := dk_42 (dk_at dksX8_pointsTo_1 22 rfl rfl)
theorem dX8_pointsTo_45 : decode cX8_pointsTo 45 = .ok (.iload_n 3, 1) := dk_29 (dk_at dksX8_pointsTo_1 23 rfl rfl)
theorem dX8_pointsTo_46 : decode cX8_pointsTo 46 = .ok (.iconst 2, 1) := dk_5 (dk_at dksX8_pointsTo_2 0 rfl rfl)
theorem dX8_pointsTo_47 : decode cX8_pointsTo 47 = .ok (.invokevirtual 57, 3) := dk_182 0 57 (dk_at dksX8_pointsTo_2 1 rfl rfl)
theorem dX8_pointsTo_50 : decode cX8_pointsTo 50 = .ok (.invokevirtual 329, 3) := dk_182 1 73 (dk_at dksX8_pointsTo_2 4 rfl rfl)
theorem dX8_pointsTo_53 : decode cX8_pointsTo 53 = .ok (.if_icmp .ge 6, 3) := dk_162 0 6 (dk_at dksX8_pointsTo_2 7 rfl rfl)
theorem dX8_pointsTo_56 : decode cX8_pointsTo 56 = .ok (.iload 4, 2) := dk_21 4 (dk_at dksX8_pointsTo_2 10 rfl rfl)
theorem dX8_pointsTo_58 : decode cX8_pointsTo 58 = .ok (.istore_n 3, 1) := dk_62 (dk_at dksX8_pointsTo_2 12 rfl rfl)
theorem dX8_pointsTo_59 : decode cX8_pointsTo 59 = .ok (.iinc 4 1, 3) := dk_132 4 1 (dk_at dksX8_pointsTo_2 13 rfl rfl)
theorem dX8_pointsTo_62 : decode cX8_pointsTo 62 = .ok (.goto (-57), 3) := dk_167 255 199 (dk_at dksX8_pointsTo_2 16 rfl rfl)
theorem dX8_pointsTo_65 : decode cX8_pointsTo 65 = .ok (.iload_n 3, 1) := dk_29 (dk_at dksX8_pointsTo_2 19 rfl rfl)
theorem dX8_pointsTo_66 : decode cX8_pointsTo 66 = .ok (.ireturn, 1) := dk_172 (dk_at dksX8_pointsTo_2 20 rfl rfl)
abbrev cX8_dear : ByteArray := prog_21_method_55_code
def yX8_dear : MethodName := ⟨RX8, "dear", "(II)I"⟩
def dkwX8_dear_1 : List UInt8 := [167, 255, 235, 29, 172]
abbrev dktX8_dear_1 : List UInt8 := dkwX8_dear_1 ++ []
def dkwX8_dear_0 : List UInt8 := [3, 62, 42, 180, 0, 7, 16, 72, 16, 10, 27, 104, 96, 29, 96, 46, 28, 159, 0, 9, 132, 3, 1]
abbrev dktX8_dear_0 : List UInt8 := dkwX8_dear_0 ++ dktX8_dear_1
theorem dksX8_dear_0 : cX8_dear.data.toList.drop 0 = dktX8_dear_0 := by decide +kernel
theorem dksX8_dear_1 : cX8_dear.data.toList.drop 23 = dktX8_dear_1 := dk_seg dksX8_dear_0 23 rfl rfl
theorem dX8_dear_0 : decode cX8_dear 0 = .ok (.iconst 0, 1) := dk_3 (dk_at dksX8_dear_0 0 rfl rfl)
theorem dX8_dear_1 : decode cX8_dear 1 = .ok (.istore_n 3, 1) := dk_62 (dk_at dksX8_dear_0 1 rfl rfl)
theorem dX8_dear_2 : decode cX8_dear 2 = .ok (.aload_n 0, 1) := dk_42 (dk_at dksX8_dear_0 2 rfl rfl)
theorem dX8_dear_3 : decode cX8_dear 3 = .ok (.getfield 7, 3) := dk_180 0 7 (dk_at dksX8_dear_0 3 rfl rfl)
theorem dX8_dear_6 : decode cX8_dear 6 = .ok (.bipush 72, 2) := dk_16 72 (dk_at dksX8_dear_0 6 rfl rfl)
theorem dX8_dear_8 : decode cX8_dear 8 = .ok (.bipush 10, 2) := dk_16 10 (dk_at dksX8_dear_0 8 rfl rfl)
theorem dX8_dear_10 : decode cX8_dear 10 = .ok (.iload_n 1, 1) := dk_27 (dk_at dksX8_dear_0 10 rfl rfl)
theorem dX8_dear_11 : decode cX8_dear 11 = .ok (.imul, 1) := dk_104 (dk_at dksX8_dear_0 11 rfl rfl)
theorem dX8_dear_12 : decode cX8_dear 12 = .ok (.iadd, 1) := dk_96 (dk_at dksX8_dear_0 12 rfl rfl)
theorem dX8_dear_13 : decode cX8_dear 13 = .ok (.iload_n 3, 1) := dk_29 (dk_at dksX8_dear_0 13 rfl rfl)
theorem dX8_dear_14 : decode cX8_dear 14 = .ok (.iadd, 1) := dk_96 (dk_at dksX8_dear_0 14 rfl rfl)
theorem dX8_dear_15 : decode cX8_dear 15 = .ok (.iaload, 1) := dk_46 (dk_at dksX8_dear_0 15 rfl rfl)
theorem dX8_dear_16 : decode cX8_dear 16 = .ok (.iload_n 2, 1) := dk_28 (dk_at dksX8_dear_0 16 rfl rfl)
theorem dX8_dear_17 : decode cX8_dear 17 = .ok (.if_icmp .eq 9, 3) := dk_159 0 9 (dk_at dksX8_dear_0 17 rfl rfl)
theorem dX8_dear_20 : decode cX8_dear 20 = .ok (.iinc 3 1, 3) := dk_132 3 1 (dk_at dksX8_dear_0 20 rfl rfl)
theorem dX8_dear_23 : decode cX8_dear 23 = .ok (.goto (-21), 3) := dk_167 255 235 (dk_at dksX8_dear_1 0 rfl rfl)
theorem dX8_dear_26 : decode cX8_dear 26 = .ok (.iload_n 3, 1) := dk_29 (dk_at dksX8_dear_1 3 rfl rfl)
theorem dX8_dear_27 : decode cX8_dear 27 = .ok (.ireturn, 1) := dk_172 (dk_at dksX8_dear_1 4 rfl rfl)
abbrev cX8_gains : ByteArray := prog_21_method_96_code
def yX8_gains : MethodName := ⟨RX8, "gains", "()I"⟩
def dkwX8_gains_2 : List UInt8 := [132, 2, 1, 167, 255, 220, 27, 172]
abbrev dktX8_gains_2 : List UInt8 := dkwX8_gains_2 ++ []
def dkwX8_gains_1 : List UInt8 := [42, 180, 0, 41, 28, 46, 42, 28, 5, 182, 0, 57, 159, 0, 7, 4, 167, 0, 4, 3, 96, 60]
abbrev dktX8_gains_1 : List UInt8 := dkwX8_gains_1 ++ dktX8_gains_2
def dkwX8_gains_0 : List UInt8 := [42, 3, 181, 0, 50, 42, 182, 1, 79, 3, 60, 3, 61, 28, 42, 180, 0, 7, 6, 46, 162, 0, 32, 27]
abbrev dktX8_gains_0 : List UInt8 := dkwX8_gains_0 ++ dktX8_gains_1
theorem dksX8_gains_0 : cX8_gains.data.toList.drop 0 = dktX8_gains_0 := by decide +kernel
theorem dksX8_gains_1 : cX8_gains.data.toList.drop 24 = dktX8_gains_1 := dk_seg dksX8_gains_0 24 rfl rfl
theorem dksX8_gains_2 : cX8_gains.data.toList.drop 46 = dktX8_gains_2 := dk_seg dksX8_gains_1 22 rfl rfl
theorem dX8_gains_0 : decode cX8_gains 0 = .ok (.aload_n 0, 1) := dk_42 (dk_at dksX8_gains_0 0 rfl rfl)
theorem dX8_gains_1 : decode cX8_gains 1 = .ok (.iconst 0, 1) := dk_3 (dk_at dksX8_gains_0 1 rfl rfl)
theorem dX8_gains_2 : decode cX8_gains 2 = .ok (.putfield 50, 3) := dk_181 0 50 (dk_at dksX8_gains_0 2 rfl rfl)
theorem dX8_gains_5 : decode cX8_gains 5 = .ok (.aload_n 0, 1) := dk_42 (dk_at dksX8_gains_0 5 rfl rfl)
theorem dX8_gains_6 : decode cX8_gains 6 = .ok (.invokevirtual 335, 3) := dk_182 1 79 (dk_at dksX8_gains_0 6 rfl rfl)
theorem dX8_gains_9 : decode cX8_gains 9 = .ok (.iconst 0, 1) := dk_3 (dk_at dksX8_gains_0 9 rfl rfl)
theorem dX8_gains_10 : decode cX8_gains 10 = .ok (.istore_n 1, 1) := dk_60 (dk_at dksX8_gains_0 10 rfl rfl)
theorem dX8_gains_11 : decode cX8_gains 11 = .ok (.iconst 0, 1) := dk_3 (dk_at dksX8_gains_0 11 rfl rfl)
theorem dX8_gains_12 : decode cX8_gains 12 = .ok (.istore_n 2, 1) := dk_61 (dk_at dksX8_gains_0 12 rfl rfl)
theorem dX8_gains_13 : decode cX8_gains 13 = .ok (.iload_n 2, 1) := dk_28 (dk_at dksX8_gains_0 13 rfl rfl)
theorem dX8_gains_14 : decode cX8_gains 14 = .ok (.aload_n 0, 1) := dk_42 (dk_at dksX8_gains_0 14 rfl rfl)
theorem dX8_gains_15 : decode cX8_gains 15 = .ok (.getfield 7, 3) := dk_180 0 7 (dk_at dksX8_gains_0 15 rfl rfl)
theorem dX8_gains_18 : decode cX8_gains 18 = .ok (.iconst 3, 1) := dk_6 (dk_at dksX8_gains_0 18 rfl rfl)
theorem dX8_gains_19 : decode cX8_gains 19 = .ok (.iaload, 1) := dk_46 (dk_at dksX8_gains_0 19 rfl rfl)
theorem dX8_gains_20 : decode cX8_gains 20 = .ok (.if_icmp .ge 32, 3) := dk_162 0 32 (dk_at dksX8_gains_0 20 rfl rfl)
theorem dX8_gains_23 : decode cX8_gains 23 = .ok (.iload_n 1, 1) := dk_27 (dk_at dksX8_gains_0 23 rfl rfl)
theorem dX8_gains_24 : decode cX8_gains 24 = .ok (.aload_n 0, 1) := dk_42 (dk_at dksX8_gains_1 0 rfl rfl)
theorem dX8_gains_25 : decode cX8_gains 25 = .ok (.getfield 41, 3) := dk_180 0 41 (dk_at dksX8_gains_1 1 rfl rfl)
theorem dX8_gains_28 : decode cX8_gains 28 = .ok (.iload_n 2, 1) := dk_28 (dk_at dksX8_gains_1 4 rfl rfl)
theorem dX8_gains_29 : decode cX8_gains 29 = .ok (.iaload, 1) := dk_46 (dk_at dksX8_gains_1 5 rfl rfl)
theorem dX8_gains_30 : decode cX8_gains 30 = .ok (.aload_n 0, 1) := dk_42 (dk_at dksX8_gains_1 6 rfl rfl)
theorem dX8_gains_31 : decode cX8_gains 31 = .ok (.iload_n 2, 1) := dk_28 (dk_at dksX8_gains_1 7 rfl rfl)
theorem dX8_gains_32 : decode cX8_gains 32 = .ok (.iconst 2, 1) := dk_5 (dk_at dksX8_gains_1 8 rfl rfl)
theorem dX8_gains_33 : decode cX8_gains 33 = .ok (.invokevirtual 57, 3) := dk_182 0 57 (dk_at dksX8_gains_1 9 rfl rfl)
theorem dX8_gains_36 : decode cX8_gains 36 = .ok (.if_icmp .eq 7, 3) := dk_159 0 7 (dk_at dksX8_gains_1 12 rfl rfl)
theorem dX8_gains_39 : decode cX8_gains 39 = .ok (.iconst 1, 1) := dk_4 (dk_at dksX8_gains_1 15 rfl rfl)
theorem dX8_gains_40 : decode cX8_gains 40 = .ok (.goto 4, 3) := dk_167 0 4 (dk_at dksX8_gains_1 16 rfl rfl)
theorem dX8_gains_43 : decode cX8_gains 43 = .ok (.iconst 0, 1) := dk_3 (dk_at dksX8_gains_1 19 rfl rfl)
theorem dX8_gains_44 : decode cX8_gains 44 = .ok (.iadd, 1) := dk_96 (dk_at dksX8_gains_1 20 rfl rfl)
theorem dX8_gains_45 : decode cX8_gains 45 = .ok (.istore_n 1, 1) := dk_60 (dk_at dksX8_gains_1 21 rfl rfl)
theorem dX8_gains_46 : decode cX8_gains 46 = .ok (.iinc 2 1, 3) := dk_132 2 1 (dk_at dksX8_gains_2 0 rfl rfl)
theorem dX8_gains_49 : decode cX8_gains 49 = .ok (.goto (-36), 3) := dk_167 255 220 (dk_at dksX8_gains_2 3 rfl rfl)
theorem dX8_gains_52 : decode cX8_gains 52 = .ok (.iload_n 1, 1) := dk_27 (dk_at dksX8_gains_2 6 rfl rfl)
theorem dX8_gains_53 : decode cX8_gains 53 = .ok (.ireturn, 1) := dk_172 (dk_at dksX8_gains_2 7 rfl rfl)
abbrev cX8_block : ByteArray := prog_21_method_97_code
def yX8_block : MethodName := ⟨RX8, "block", "(I)Z"⟩
def dkwX8_block_7 : List UInt8 := [3, 172]
abbrev dktX8_block_7 : List UInt8 := dkwX8_block_7 ++ []
def dkwX8_block_6 : List UInt8 := [2, 130, 126, 61, 4, 54, 4, 132, 5, 1, 167, 255, 208, 167, 255, 194, 28, 153, 0, 7, 4, 167, 0, 4]
abbrev dktX8_block_6 : List UInt8 := dkwX8_block_6 ++ dktX8_block_7
def dkwX8_block_5 : List UInt8 := [184, 0, 107, 153, 0, 28, 42, 21, 5, 28, 182, 1, 82, 153, 0, 6, 167, 0, 15, 28, 4, 21, 5, 120]
abbrev dktX8_block_5 : List UInt8 := dkwX8_block_5 ++ dktX8_block_6
def dkwX8_block_4 : List UInt8 := [153, 0, 63, 3, 54, 4, 3, 54, 5, 21, 5, 42, 180, 0, 7, 6, 46, 162, 0, 43, 28, 21, 5]
abbrev dktX8_block_4 : List UInt8 := dkwX8_block_4 ++ dktX8_block_5
def dkwX8_block_3 : List UInt8 := [3, 167, 0, 4, 4, 181, 0, 50, 42, 180, 0, 50, 158, 0, 5, 3, 172, 4, 54, 4, 21, 4]
abbrev dktX8_block_3 : List UInt8 := dkwX8_block_3 ++ dktX8_block_4
def dkwX8_block_2 : List UInt8 := [182, 0, 57, 2, 159, 0, 7, 4, 167, 0, 4, 3, 62, 132, 4, 1, 167, 255, 212, 42, 29, 153, 0, 7]
abbrev dktX8_block_2 : List UInt8 := dkwX8_block_2 ++ dktX8_block_3
def dkwX8_block_1 : List UInt8 := [6, 46, 162, 0, 39, 29, 153, 0, 27, 28, 21, 4, 184, 0, 107, 153, 0, 14, 42, 21, 4, 5]
abbrev dktX8_block_1 : List UInt8 := dkwX8_block_1 ++ dktX8_block_2
def dkwX8_block_0 : List UInt8 := [27, 4, 42, 180, 0, 7, 6, 46, 120, 4, 100, 126, 61, 4, 62, 3, 54, 4, 21, 4, 42, 180, 0, 7]
abbrev dktX8_block_0 : List UInt8 := dkwX8_block_0 ++ dktX8_block_1
theorem dksX8_block_0 : cX8_block.data.toList.drop 0 = dktX8_block_0 := by decide +kernel
theorem dksX8_block_1 : cX8_block.data.toList.drop 24 = dktX8_block_1 := dk_seg dksX8_block_0 24 rfl rfl
theorem dksX8_block_2 : cX8_block.data.toList.drop 46 = dktX8_block_2 := dk_seg dksX8_block_1 22 rfl rfl
theorem dksX8_block_3 : cX8_block.data.toList.drop 70 = dktX8_block_3 := dk_seg dksX8_block_2 24 rfl rfl
theorem dksX8_block_4 : cX8_block.data.toList.drop 92 = dktX8_block_4 := dk_seg dksX8_block_3 22 rfl rfl
theorem dksX8_block_5 : cX8_block.data.toList.drop 115 = dktX8_block_5 := dk_seg dksX8_block_4 23 rfl rfl
theorem dksX8_block_6 : cX8_block.data.toList.drop 139 = dktX8_block_6 := dk_seg dksX8_block_5 24 rfl rfl
theorem dksX8_block_7 : cX8_block.data.toList.drop 163 = dktX8_block_7 := dk_seg dksX8_block_6 24 rfl rfl
theorem dX8_block_0 : decode cX8_block 0 = .ok (.iload_n 1, 1) := dk_27 (dk_at dksX8_block_0 0 rfl rfl)
theorem dX8_block_1 : decode cX8_block 1 = .ok (.iconst 1, 1) := dk_4 (dk_at dksX8_block_0 1 rfl rfl)
theorem dX8_block_2 : decode cX8_block 2 = .ok (.aload_n 0, 1) := dk_42 (dk_at dksX8_block_0 2 rfl rfl)
theorem dX8_block_3 : decode cX8_block 3 = .ok (.getfield 7, 3) := dk_180 0 7 (dk_at dksX8_block_0 3 rfl rfl)
theorem dX8_block_6 : decode cX8_block 6 = .ok (.iconst 3, 1) := dk_6 (dk_at dksX8_block_0 6 rfl rfl)
theorem dX8_block_7 : decode cX8_block 7 = .ok (.iaload, 1) := dk_46 (dk_at dksX8_block_0 7 rfl rfl)
theorem dX8_block_8 : decode cX8_block 8 = .ok (.ishl, 1) := dk_120 (dk_at dksX8_block_0 8 rfl rfl)
theorem dX8_block_9 : decode cX8_block 9 = .ok (.iconst 1, 1) := dk_4 (dk_at dksX8_block_0 9 rfl rfl)
theorem dX8_block_10 : decode cX8_block 10 = .ok (.isub, 1) := dk_100 (dk_at dksX8_block_0 10 rfl rfl)
theorem dX8_block_11 : decode cX8_block 11 = .ok (.iand, 1) := dk_126 (dk_at dksX8_block_0 11 rfl rfl)
theorem dX8_block_12 : decode cX8_block 12 = .ok (.istore_n 2, 1) := dk_61 (dk_at dksX8_block_0 12 rfl rfl)
theorem dX8_block_13 : decode cX8_block 13 = .ok (.iconst 1, 1) := dk_4 (dk_at dksX8_block_0 13 rfl rfl)
theorem dX8_block_14 : decode cX8_block 14 = .ok (.istore_n 3, 1) := dk_62 (dk_at dksX8_block_0 14 rfl rfl)
theorem dX8_block_15 : decode cX8_block 15 = .ok (.iconst 0, 1) := dk_3 (dk_at dksX8_block_0 15 rfl rfl)
theorem dX8_block_16 : decode cX8_block 16 = .ok (.istore 4, 2) := dk_54 4 (dk_at dksX8_block_0 16 rfl rfl)
theorem dX8_block_18 : decode cX8_block 18 = .ok (.iload 4, 2) := dk_21 4 (dk_at dksX8_block_0 18 rfl rfl)
theorem dX8_block_20 : decode cX8_block 20 = .ok (.aload_n 0, 1) := dk_42 (dk_at dksX8_block_0 20 rfl rfl)
theorem dX8_block_21 : decode cX8_block 21 = .ok (.getfield 7, 3) := dk_180 0 7 (dk_at dksX8_block_0 21 rfl rfl)
theorem dX8_block_24 : decode cX8_block 24 = .ok (.iconst 3, 1) := dk_6 (dk_at dksX8_block_1 0 rfl rfl)
theorem dX8_block_25 : decode cX8_block 25 = .ok (.iaload, 1) := dk_46 (dk_at dksX8_block_1 1 rfl rfl)
theorem dX8_block_26 : decode cX8_block 26 = .ok (.if_icmp .ge 39, 3) := dk_162 0 39 (dk_at dksX8_block_1 2 rfl rfl)
theorem dX8_block_29 : decode cX8_block 29 = .ok (.iload_n 3, 1) := dk_29 (dk_at dksX8_block_1 5 rfl rfl)
theorem dX8_block_30 : decode cX8_block 30 = .ok (.ifCond .eq 27, 3) := dk_153 0 27 (dk_at dksX8_block_1 6 rfl rfl)
theorem dX8_block_33 : decode cX8_block 33 = .ok (.iload_n 2, 1) := dk_28 (dk_at dksX8_block_1 9 rfl rfl)
theorem dX8_block_34 : decode cX8_block 34 = .ok (.iload 4, 2) := dk_21 4 (dk_at dksX8_block_1 10 rfl rfl)
theorem dX8_block_36 : decode cX8_block 36 = .ok (.invokestatic 107, 3) := dk_184 0 107 (dk_at dksX8_block_1 12 rfl rfl)
theorem dX8_block_39 : decode cX8_block 39 = .ok (.ifCond .eq 14, 3) := dk_153 0 14 (dk_at dksX8_block_1 15 rfl rfl)
theorem dX8_block_42 : decode cX8_block 42 = .ok (.aload_n 0, 1) := dk_42 (dk_at dksX8_block_1 18 rfl rfl)
theorem dX8_block_43 : decode cX8_block 43 = .ok (.iload 4, 2) := dk_21 4 (dk_at dksX8_block_1 19 rfl rfl)
theorem dX8_block_45 : decode cX8_block 45 = .ok (.iconst 2, 1) := dk_5 (dk_at dksX8_block_1 21 rfl rfl)
theorem dX8_block_46 : decode cX8_block 46 = .ok (.invokevirtual 57, 3) := dk_182 0 57 (dk_at dksX8_block_2 0 rfl rfl)
theorem dX8_block_49 : decode cX8_block 49 = .ok (.iconst (-1), 1) := dk_2 (dk_at dksX8_block_2 3 rfl rfl)
theorem dX8_block_50 : decode cX8_block 50 = .ok (.if_icmp .eq 7, 3) := dk_159 0 7 (dk_at dksX8_block_2 4 rfl rfl)
theorem dX8_block_53 : decode cX8_block 53 = .ok (.iconst 1, 1) := dk_4 (dk_at dksX8_block_2 7 rfl rfl)
theorem dX8_block_54 : decode cX8_block 54 = .ok (.goto 4, 3) := dk_167 0 4 (dk_at dksX8_block_2 8 rfl rfl)
theorem dX8_block_57 : decode cX8_block 57 = .ok (.iconst 0, 1) := dk_3 (dk_at dksX8_block_2 11 rfl rfl)
theorem dX8_block_58 : decode cX8_block 58 = .ok (.istore_n 3, 1) := dk_62 (dk_at dksX8_block_2 12 rfl rfl)
theorem dX8_block_59 : decode cX8_block 59 = .ok (.iinc 4 1, 3) := dk_132 4 1 (dk_at dksX8_block_2 13 rfl rfl)
theorem dX8_block_62 : decode cX8_block 62 = .ok (.goto (-44), 3) := dk_167 255 212 (dk_at dksX8_block_2 16 rfl rfl)
theorem dX8_block_65 : decode cX8_block 65 = .ok (.aload_n 0, 1) := dk_42 (dk_at dksX8_block_2 19 rfl rfl)
theorem dX8_block_66 : decode cX8_block 66 = .ok (.iload_n 3, 1) := dk_29 (dk_at dksX8_block_2 20 rfl rfl)
theorem dX8_block_67 : decode cX8_block 67 = .ok (.ifCond .eq 7, 3) := dk_153 0 7 (dk_at dksX8_block_2 21 rfl rfl)
theorem dX8_block_70 : decode cX8_block 70 = .ok (.iconst 0, 1) := dk_3 (dk_at dksX8_block_3 0 rfl rfl)
theorem dX8_block_71 : decode cX8_block 71 = .ok (.goto 4, 3) := dk_167 0 4 (dk_at dksX8_block_3 1 rfl rfl)
theorem dX8_block_74 : decode cX8_block 74 = .ok (.iconst 1, 1) := dk_4 (dk_at dksX8_block_3 4 rfl rfl)
theorem dX8_block_75 : decode cX8_block 75 = .ok (.putfield 50, 3) := dk_181 0 50 (dk_at dksX8_block_3 5 rfl rfl)
theorem dX8_block_78 : decode cX8_block 78 = .ok (.aload_n 0, 1) := dk_42 (dk_at dksX8_block_3 8 rfl rfl)
theorem dX8_block_79 : decode cX8_block 79 = .ok (.getfield 50, 3) := dk_180 0 50 (dk_at dksX8_block_3 9 rfl rfl)
theorem dX8_block_82 : decode cX8_block 82 = .ok (.ifCond .le 5, 3) := dk_158 0 5 (dk_at dksX8_block_3 12 rfl rfl)
theorem dX8_block_85 : decode cX8_block 85 = .ok (.iconst 0, 1) := dk_3 (dk_at dksX8_block_3 15 rfl rfl)
theorem dX8_block_86 : decode cX8_block 86 = .ok (.ireturn, 1) := dk_172 (dk_at dksX8_block_3 16 rfl rfl)
theorem dX8_block_87 : decode cX8_block 87 = .ok (.iconst 1, 1) := dk_4 (dk_at dksX8_block_3 17 rfl rfl)
theorem dX8_block_88 : decode cX8_block 88 = .ok (.istore 4, 2) := dk_54 4 (dk_at dksX8_block_3 18 rfl rfl)
theorem dX8_block_90 : decode cX8_block 90 = .ok (.iload 4, 2) := dk_21 4 (dk_at dksX8_block_3 20 rfl rfl)
theorem dX8_block_92 : decode cX8_block 92 = .ok (.ifCond .eq 63, 3) := dk_153 0 63 (dk_at dksX8_block_4 0 rfl rfl)
theorem dX8_block_95 : decode cX8_block 95 = .ok (.iconst 0, 1) := dk_3 (dk_at dksX8_block_4 3 rfl rfl)
theorem dX8_block_96 : decode cX8_block 96 = .ok (.istore 4, 2) := dk_54 4 (dk_at dksX8_block_4 4 rfl rfl)
theorem dX8_block_98 : decode cX8_block 98 = .ok (.iconst 0, 1) := dk_3 (dk_at dksX8_block_4 6 rfl rfl)
theorem dX8_block_99 : decode cX8_block 99 = .ok (.istore 5, 2) := dk_54 5 (dk_at dksX8_block_4 7 rfl rfl)
theorem dX8_block_101 : decode cX8_block 101 = .ok (.iload 5, 2) := dk_21 5 (dk_at dksX8_block_4 9 rfl rfl)
theorem dX8_block_103 : decode cX8_block 103 = .ok (.aload_n 0, 1) := dk_42 (dk_at dksX8_block_4 11 rfl rfl)
theorem dX8_block_104 : decode cX8_block 104 = .ok (.getfield 7, 3) := dk_180 0 7 (dk_at dksX8_block_4 12 rfl rfl)
theorem dX8_block_107 : decode cX8_block 107 = .ok (.iconst 3, 1) := dk_6 (dk_at dksX8_block_4 15 rfl rfl)
theorem dX8_block_108 : decode cX8_block 108 = .ok (.iaload, 1) := dk_46 (dk_at dksX8_block_4 16 rfl rfl)
theorem dX8_block_109 : decode cX8_block 109 = .ok (.if_icmp .ge 43, 3) := dk_162 0 43 (dk_at dksX8_block_4 17 rfl rfl)
theorem dX8_block_112 : decode cX8_block 112 = .ok (.iload_n 2, 1) := dk_28 (dk_at dksX8_block_4 20 rfl rfl)
theorem dX8_block_113 : decode cX8_block 113 = .ok (.iload 5, 2) := dk_21 5 (dk_at dksX8_block_4 21 rfl rfl)
theorem dX8_block_115 : decode cX8_block 115 = .ok (.invokestatic 107, 3) := dk_184 0 107 (dk_at dksX8_block_5 0 rfl rfl)
theorem dX8_block_118 : decode cX8_block 118 = .ok (.ifCond .eq 28, 3) := dk_153 0 28 (dk_at dksX8_block_5 3 rfl rfl)
theorem dX8_block_121 : decode cX8_block 121 = .ok (.aload_n 0, 1) := dk_42 (dk_at dksX8_block_5 6 rfl rfl)
theorem dX8_block_122 : decode cX8_block 122 = .ok (.iload 5, 2) := dk_21 5 (dk_at dksX8_block_5 7 rfl rfl)
theorem dX8_block_124 : decode cX8_block 124 = .ok (.iload_n 2, 1) := dk_28 (dk_at dksX8_block_5 9 rfl rfl)
theorem dX8_block_125 : decode cX8_block 125 = .ok (.invokevirtual 338, 3) := dk_182 1 82 (dk_at dksX8_block_5 10 rfl rfl)
theorem dX8_block_128 : decode cX8_block 128 = .ok (.ifCond .eq 6, 3) := dk_153 0 6 (dk_at dksX8_block_5 13 rfl rfl)
theorem dX8_block_131 : decode cX8_block 131 = .ok (.goto 15, 3) := dk_167 0 15 (dk_at dksX8_block_5 16 rfl rfl)
theorem dX8_block_134 : decode cX8_block 134 = .ok (.iload_n 2, 1) := dk_28 (dk_at dksX8_block_5 19 rfl rfl)
theorem dX8_block_135 : decode cX8_block 135 = .ok (.iconst 1, 1) := dk_4 (dk_at dksX8_block_5 20 rfl rfl)
theorem dX8_block_136 : decode cX8_block 136 = .ok (.iload 5, 2) := dk_21 5 (dk_at dksX8_block_5 21 rfl rfl)
theorem dX8_block_138 : decode cX8_block 138 = .ok (.ishl, 1) := dk_120 (dk_at dksX8_block_5 23 rfl rfl)
theorem dX8_block_139 : decode cX8_block 139 = .ok (.iconst (-1), 1) := dk_2 (dk_at dksX8_block_6 0 rfl rfl)
theorem dX8_block_140 : decode cX8_block 140 = .ok (.ixor, 1) := dk_130 (dk_at dksX8_block_6 1 rfl rfl)
theorem dX8_block_141 : decode cX8_block 141 = .ok (.iand, 1) := dk_126 (dk_at dksX8_block_6 2 rfl rfl)
theorem dX8_block_142 : decode cX8_block 142 = .ok (.istore_n 2, 1) := dk_61 (dk_at dksX8_block_6 3 rfl rfl)
theorem dX8_block_143 : decode cX8_block 143 = .ok (.iconst 1, 1) := dk_4 (dk_at dksX8_block_6 4 rfl rfl)
theorem dX8_block_144 : decode cX8_block 144 = .ok (.istore 4, 2) := dk_54 4 (dk_at dksX8_block_6 5 rfl rfl)
theorem dX8_block_146 : decode cX8_block 146 = .ok (.iinc 5 1, 3) := dk_132 5 1 (dk_at dksX8_block_6 7 rfl rfl)
theorem dX8_block_149 : decode cX8_block 149 = .ok (.goto (-48), 3) := dk_167 255 208 (dk_at dksX8_block_6 10 rfl rfl)
theorem dX8_block_152 : decode cX8_block 152 = .ok (.goto (-62), 3) := dk_167 255 194 (dk_at dksX8_block_6 13 rfl rfl)
theorem dX8_block_155 : decode cX8_block 155 = .ok (.iload_n 2, 1) := dk_28 (dk_at dksX8_block_6 16 rfl rfl)
theorem dX8_block_156 : decode cX8_block 156 = .ok (.ifCond .eq 7, 3) := dk_153 0 7 (dk_at dksX8_block_6 17 rfl rfl)
theorem dX8_block_159 : decode cX8_block 159 = .ok (.iconst 1, 1) := dk_4 (dk_at dksX8_block_6 20 rfl rfl)
theorem dX8_block_160 : decode cX8_block 160 = .ok (.goto 4, 3) := dk_167 0 4 (dk_at dksX8_block_6 21 rfl rfl)
theorem dX8_block_163 : decode cX8_block 163 = .ok (.iconst 0, 1) := dk_3 (dk_at dksX8_block_7 0 rfl rfl)
theorem dX8_block_164 : decode cX8_block 164 = .ok (.ireturn, 1) := dk_172 (dk_at dksX8_block_7 1 rfl rfl)
abbrev cX8_hasDearer : ByteArray := prog_21_method_98_code
def yX8_hasDearer : MethodName := ⟨RX8, "hasDearer", "(II)Z"⟩
def dkwX8_hasDearer_2 : List UInt8 := [132, 3, 1, 167, 255, 208, 3, 172]
abbrev dktX8_hasDearer_2 : List UInt8 := dkwX8_hasDearer_2 ++ []
def dkwX8_hasDearer_1 : List UInt8 := [5, 182, 0, 57, 182, 1, 73, 42, 27, 42, 27, 5, 182, 0, 57, 182, 1, 73, 162, 0, 5, 4, 172]
abbrev dktX8_hasDearer_1 : List UInt8 := dkwX8_hasDearer_1 ++ dktX8_hasDearer_2
def dkwX8_hasDearer_0 : List UInt8 := [3, 62, 29, 42, 180, 0, 7, 6, 46, 162, 0, 44, 28, 29, 184, 0, 107, 153, 0, 30, 42, 27, 42, 29]
abbrev dktX8_hasDearer_0 : List UInt8 := dkwX8_hasDearer_0 ++ dktX8_hasDearer_1
theorem dksX8_hasDearer_0 : cX8_hasDearer.data.toList.drop 0 = dktX8_hasDearer_0 := by decide +kernel
theorem dksX8_hasDearer_1 : cX8_hasDearer.data.toList.drop 24 = dktX8_hasDearer_1 := dk_seg dksX8_hasDearer_0 24 rfl rfl
theorem dksX8_hasDearer_2 : cX8_hasDearer.data.toList.drop 47 = dktX8_hasDearer_2 := dk_seg dksX8_hasDearer_1 23 rfl rfl
theorem dX8_hasDearer_0 : decode cX8_hasDearer 0 = .ok (.iconst 0, 1) := dk_3 (dk_at dksX8_hasDearer_0 0 rfl rfl)
theorem dX8_hasDearer_1 : decode cX8_hasDearer 1 = .ok (.istore_n 3, 1) := dk_62 (dk_at dksX8_hasDearer_0 1 rfl rfl)
theorem dX8_hasDearer_2 : decode cX8_hasDearer 2 = .ok (.iload_n 3, 1) := dk_29 (dk_at dksX8_hasDearer_0 2 rfl rfl)
theorem dX8_hasDearer_3 : decode cX8_hasDearer 3 = .ok (.aload_n 0, 1) := dk_42 (dk_at dksX8_hasDearer_0 3 rfl rfl)
theorem dX8_hasDearer_4 : decode cX8_hasDearer 4 = .ok (.getfield 7, 3) := dk_180 0 7 (dk_at dksX8_hasDearer_0 4 rfl rfl)
theorem dX8_hasDearer_7 : decode cX8_hasDearer 7 = .ok (.iconst 3, 1) := dk_6 (dk_at dksX8_hasDearer_0 7 rfl rfl)
theorem dX8_hasDearer_8 : decode cX8_hasDearer 8 = .ok (.iaload, 1) := dk_46 (dk_at dksX8_hasDearer_0 8 rfl rfl)
theorem dX8_hasDearer_9 : decode cX8_hasDearer 9 = .ok (.if_icmp .ge 44, 3) := dk_162 0 44 (dk_at dksX8_hasDearer_0 9 rfl rfl)
theorem dX8_hasDearer_12 : decode cX8_hasDearer 12 = .ok (.iload_n 2, 1) := dk_28 (dk_at dksX8_hasDearer_0 12 rfl rfl)
theorem dX8_hasDearer_13 : decode cX8_hasDearer 13 = .ok (.iload_n 3, 1) := dk_29 (dk_at dksX8_hasDearer_0 13 rfl rfl)
theorem dX8_hasDearer_14 : decode cX8_hasDearer 14 = .ok (.invokestatic 107, 3) := dk_184 0 107 (dk_at dksX8_hasDearer_0 14 rfl rfl)
theorem dX8_hasDearer_17 : decode cX8_hasDearer 17 = .ok (.ifCond .eq 30, 3) := dk_153 0 30 (dk_at dksX8_hasDearer_0 17 rfl rfl)
theorem dX8_hasDearer_20 : decode cX8_hasDearer 20 = .ok (.aload_n 0, 1) := dk_42 (dk_at dksX8_hasDearer_0 20 rfl rfl)
theorem dX8_hasDearer_21 : decode cX8_hasDearer 21 = .ok (.iload_n 1, 1) := dk_27 (dk_at dksX8_hasDearer_0 21 rfl rfl)
theorem dX8_hasDearer_22 : decode cX8_hasDearer 22 = .ok (.aload_n 0, 1) := dk_42 (dk_at dksX8_hasDearer_0 22 rfl rfl)
theorem dX8_hasDearer_23 : decode cX8_hasDearer 23 = .ok (.iload_n 3, 1) := dk_29 (dk_at dksX8_hasDearer_0 23 rfl rfl)
theorem dX8_hasDearer_24 : decode cX8_hasDearer 24 = .ok (.iconst 2, 1) := dk_5 (dk_at dksX8_hasDearer_1 0 rfl rfl)
theorem dX8_hasDearer_25 : decode cX8_hasDearer 25 = .ok (.invokevirtual 57, 3) := dk_182 0 57 (dk_at dksX8_hasDearer_1 1 rfl rfl)
theorem dX8_hasDearer_28 : decode cX8_hasDearer 28 = .ok (.invokevirtual 329, 3) := dk_182 1 73 (dk_at dksX8_hasDearer_1 4 rfl rfl)
theorem dX8_hasDearer_31 : decode cX8_hasDearer 31 = .ok (.aload_n 0, 1) := dk_42 (dk_at dksX8_hasDearer_1 7 rfl rfl)
theorem dX8_hasDearer_32 : decode cX8_hasDearer 32 = .ok (.iload_n 1, 1) := dk_27 (dk_at dksX8_hasDearer_1 8 rfl rfl)
theorem dX8_hasDearer_33 : decode cX8_hasDearer 33 = .ok (.aload_n 0, 1) := dk_42 (dk_at dksX8_hasDearer_1 9 rfl rfl)
theorem dX8_hasDearer_34 : decode cX8_hasDearer 34 = .ok (.iload_n 1, 1) := dk_27 (dk_at dksX8_hasDearer_1 10 rfl rfl)
theorem dX8_hasDearer_35 : decode cX8_hasDearer 35 = .ok (.iconst 2, 1) := dk_5 (dk_at dksX8_hasDearer_1 11 rfl rfl)
theorem dX8_hasDearer_36 : decode cX8_hasDearer 36 = .ok (.invokevirtual 57, 3) := dk_182 0 57 (dk_at dksX8_hasDearer_1 12 rfl rfl)
theorem dX8_hasDearer_39 : decode cX8_hasDearer 39 = .ok (.invokevirtual 329, 3) := dk_182 1 73 (dk_at dksX8_hasDearer_1 15 rfl rfl)
theorem dX8_hasDearer_42 : decode cX8_hasDearer 42 = .ok (.if_icmp .ge 5, 3) := dk_162 0 5 (dk_at dksX8_hasDearer_1 18 rfl rfl)
theorem dX8_hasDearer_45 : decode cX8_hasDearer 45 = .ok (.iconst 1, 1) := dk_4 (dk_at dksX8_hasDearer_1 21 rfl rfl)
theorem dX8_hasDearer_46 : decode cX8_hasDearer 46 = .ok (.ireturn, 1) := dk_172 (dk_at dksX8_hasDearer_1 22 rfl rfl)
theorem dX8_hasDearer_47 : decode cX8_hasDearer 47 = .ok (.iinc 3 1, 3) := dk_132 3 1 (dk_at dksX8_hasDearer_2 0 rfl rfl)
theorem dX8_hasDearer_50 : decode cX8_hasDearer 50 = .ok (.goto (-48), 3) := dk_167 255 208 (dk_at dksX8_hasDearer_2 3 rfl rfl)
theorem dX8_hasDearer_53 : decode cX8_hasDearer 53 = .ok (.iconst 0, 1) := dk_3 (dk_at dksX8_hasDearer_2 6 rfl rfl)
theorem dX8_hasDearer_54 : decode cX8_hasDearer 54 = .ok (.ireturn, 1) := dk_172 (dk_at dksX8_hasDearer_2 7 rfl rfl)
abbrev cX8_fits : ByteArray := prog_21_method_103_code
def yX8_fits : MethodName := ⟨RX8, "fits", "(I)I"⟩
def dkwX8_fits_4 : List UInt8 := [167, 255, 224, 2, 172]
abbrev dktX8_fits_4 : List UInt8 := dkwX8_fits_4 ++ []
def dkwX8_fits_3 : List UInt8 := [162, 0, 27, 29, 158, 0, 23, 42, 27, 21, 4, 182, 1, 97, 29, 160, 0, 6, 21, 4, 172, 132, 4, 1]
abbrev dktX8_fits_3 : List UInt8 := dkwX8_fits_3 ++ dktX8_fits_4
def dkwX8_fits_2 : List UInt8 := [182, 1, 91, 62, 27, 2, 160, 0, 5, 29, 172, 3, 54, 4, 21, 4, 42, 180, 0, 7, 6, 46]
abbrev dktX8_fits_2 : List UInt8 := dkwX8_fits_2 ++ dktX8_fits_3
def dkwX8_fits_1 : List UInt8 := [154, 0, 7, 5, 167, 0, 4, 3, 181, 0, 50, 42, 180, 0, 50, 158, 0, 5, 3, 172, 42, 17, 15, 255]
abbrev dktX8_fits_1 : List UInt8 := dkwX8_fits_1 ++ dktX8_fits_2
def dkwX8_fits_0 : List UInt8 := [42, 182, 1, 94, 61, 42, 27, 2, 159, 0, 15, 42, 27, 182, 0, 250, 154, 0, 7, 4, 167, 0, 12, 28]
abbrev dktX8_fits_0 : List UInt8 := dkwX8_fits_0 ++ dktX8_fits_1
theorem dksX8_fits_0 : cX8_fits.data.toList.drop 0 = dktX8_fits_0 := by decide +kernel
theorem dksX8_fits_1 : cX8_fits.data.toList.drop 24 = dktX8_fits_1 := dk_seg dksX8_fits_0 24 rfl rfl
theorem dksX8_fits_2 : cX8_fits.data.toList.drop 48 = dktX8_fits_2 := dk_seg dksX8_fits_1 24 rfl rfl
theorem dksX8_fits_3 : cX8_fits.data.toList.drop 70 = dktX8_fits_3 := dk_seg dksX8_fits_2 22 rfl rfl
theorem dksX8_fits_4 : cX8_fits.data.toList.drop 94 = dktX8_fits_4 := dk_seg dksX8_fits_3 24 rfl rfl
theorem dX8_fits_0 : decode cX8_fits 0 = .ok (.aload_n 0, 1) := dk_42 (dk_at dksX8_fits_0 0 rfl rfl)
theorem dX8_fits_1 : decode cX8_fits 1 = .ok (.invokevirtual 350, 3) := dk_182 1 94 (dk_at dksX8_fits_0 1 rfl rfl)
theorem dX8_fits_4 : decode cX8_fits 4 = .ok (.istore_n 2, 1) := dk_61 (dk_at dksX8_fits_0 4 rfl rfl)
theorem dX8_fits_5 : decode cX8_fits 5 = .ok (.aload_n 0, 1) := dk_42 (dk_at dksX8_fits_0 5 rfl rfl)
theorem dX8_fits_6 : decode cX8_fits 6 = .ok (.iload_n 1, 1) := dk_27 (dk_at dksX8_fits_0 6 rfl rfl)
theorem dX8_fits_7 : decode cX8_fits 7 = .ok (.iconst (-1), 1) := dk_2 (dk_at dksX8_fits_0 7 rfl rfl)
theorem dX8_fits_8 : decode cX8_fits 8 = .ok (.if_icmp .eq 15, 3) := dk_159 0 15 (dk_at dksX8_fits_0 8 rfl rfl)
theorem dX8_fits_11 : decode cX8_fits 11 = .ok (.aload_n 0, 1) := dk_42 (dk_at dksX8_fits_0 11 rfl rfl)
theorem dX8_fits_12 : decode cX8_fits 12 = .ok (.iload_n 1, 1) := dk_27 (dk_at dksX8_fits_0 12 rfl rfl)
theorem dX8_fits_13 : decode cX8_fits 13 = .ok (.invokevirtual 250, 3) := dk_182 0 250 (dk_at dksX8_fits_0 13 rfl rfl)
theorem dX8_fits_16 : decode cX8_fits 16 = .ok (.ifCond .ne 7, 3) := dk_154 0 7 (dk_at dksX8_fits_0 16 rfl rfl)
theorem dX8_fits_19 : decode cX8_fits 19 = .ok (.iconst 1, 1) := dk_4 (dk_at dksX8_fits_0 19 rfl rfl)
theorem dX8_fits_20 : decode cX8_fits 20 = .ok (.goto 12, 3) := dk_167 0 12 (dk_at dksX8_fits_0 20 rfl rfl)
theorem dX8_fits_23 : decode cX8_fits 23 = .ok (.iload_n 2, 1) := dk_28 (dk_at dksX8_fits_0 23 rfl rfl)
theorem dX8_fits_24 : decode cX8_fits 24 = .ok (.ifCond .ne 7, 3) := dk_154 0 7 (dk_at dksX8_fits_1 0 rfl rfl)
theorem dX8_fits_27 : decode cX8_fits 27 = .ok (.iconst 2, 1) := dk_5 (dk_at dksX8_fits_1 3 rfl rfl)
theorem dX8_fits_28 : decode cX8_fits 28 = .ok (.goto 4, 3) := dk_167 0 4 (dk_at dksX8_fits_1 4 rfl rfl)
theorem dX8_fits_31 : decode cX8_fits 31 = .ok (.iconst 0, 1) := dk_3 (dk_at dksX8_fits_1 7 rfl rfl)
theorem dX8_fits_32 : decode cX8_fits 32 = .ok (.putfield 50, 3) := dk_181 0 50 (dk_at dksX8_fits_1 8 rfl rfl)
theorem dX8_fits_35 : decode cX8_fits 35 = .ok (.aload_n 0, 1) := dk_42 (dk_at dksX8_fits_1 11 rfl rfl)
theorem dX8_fits_36 : decode cX8_fits 36 = .ok (.getfield 50, 3) := dk_180 0 50 (dk_at dksX8_fits_1 12 rfl rfl)
theorem dX8_fits_39 : decode cX8_fits 39 = .ok (.ifCond .le 5, 3) := dk_158 0 5 (dk_at dksX8_fits_1 15 rfl rfl)
theorem dX8_fits_42 : decode cX8_fits 42 = .ok (.iconst 0, 1) := dk_3 (dk_at dksX8_fits_1 18 rfl rfl)
theorem dX8_fits_43 : decode cX8_fits 43 = .ok (.ireturn, 1) := dk_172 (dk_at dksX8_fits_1 19 rfl rfl)
theorem dX8_fits_44 : decode cX8_fits 44 = .ok (.aload_n 0, 1) := dk_42 (dk_at dksX8_fits_1 20 rfl rfl)
theorem dX8_fits_45 : decode cX8_fits 45 = .ok (.sipush 4095, 3) := dk_17 15 255 (dk_at dksX8_fits_1 21 rfl rfl)
theorem dX8_fits_48 : decode cX8_fits 48 = .ok (.invokevirtual 347, 3) := dk_182 1 91 (dk_at dksX8_fits_2 0 rfl rfl)
theorem dX8_fits_51 : decode cX8_fits 51 = .ok (.istore_n 3, 1) := dk_62 (dk_at dksX8_fits_2 3 rfl rfl)
theorem dX8_fits_52 : decode cX8_fits 52 = .ok (.iload_n 1, 1) := dk_27 (dk_at dksX8_fits_2 4 rfl rfl)
theorem dX8_fits_53 : decode cX8_fits 53 = .ok (.iconst (-1), 1) := dk_2 (dk_at dksX8_fits_2 5 rfl rfl)
theorem dX8_fits_54 : decode cX8_fits 54 = .ok (.if_icmp .ne 5, 3) := dk_160 0 5 (dk_at dksX8_fits_2 6 rfl rfl)
theorem dX8_fits_57 : decode cX8_fits 57 = .ok (.iload_n 3, 1) := dk_29 (dk_at dksX8_fits_2 9 rfl rfl)
theorem dX8_fits_58 : decode cX8_fits 58 = .ok (.ireturn, 1) := dk_172 (dk_at dksX8_fits_2 10 rfl rfl)
theorem dX8_fits_59 : decode cX8_fits 59 = .ok (.iconst 0, 1) := dk_3 (dk_at dksX8_fits_2 11 rfl rfl)
theorem dX8_fits_60 : decode cX8_fits 60 = .ok (.istore 4, 2) := dk_54 4 (dk_at dksX8_fits_2 12 rfl rfl)
theorem dX8_fits_62 : decode cX8_fits 62 = .ok (.iload 4, 2) := dk_21 4 (dk_at dksX8_fits_2 14 rfl rfl)
theorem dX8_fits_64 : decode cX8_fits 64 = .ok (.aload_n 0, 1) := dk_42 (dk_at dksX8_fits_2 16 rfl rfl)
theorem dX8_fits_65 : decode cX8_fits 65 = .ok (.getfield 7, 3) := dk_180 0 7 (dk_at dksX8_fits_2 17 rfl rfl)
theorem dX8_fits_68 : decode cX8_fits 68 = .ok (.iconst 3, 1) := dk_6 (dk_at dksX8_fits_2 20 rfl rfl)
theorem dX8_fits_69 : decode cX8_fits 69 = .ok (.iaload, 1) := dk_46 (dk_at dksX8_fits_2 21 rfl rfl)
theorem dX8_fits_70 : decode cX8_fits 70 = .ok (.if_icmp .ge 27, 3) := dk_162 0 27 (dk_at dksX8_fits_3 0 rfl rfl)
theorem dX8_fits_73 : decode cX8_fits 73 = .ok (.iload_n 3, 1) := dk_29 (dk_at dksX8_fits_3 3 rfl rfl)
theorem dX8_fits_74 : decode cX8_fits 74 = .ok (.ifCond .le 23, 3) := dk_158 0 23 (dk_at dksX8_fits_3 4 rfl rfl)
theorem dX8_fits_77 : decode cX8_fits 77 = .ok (.aload_n 0, 1) := dk_42 (dk_at dksX8_fits_3 7 rfl rfl)
theorem dX8_fits_78 : decode cX8_fits 78 = .ok (.iload_n 1, 1) := dk_27 (dk_at dksX8_fits_3 8 rfl rfl)
theorem dX8_fits_79 : decode cX8_fits 79 = .ok (.iload 4, 2) := dk_21 4 (dk_at dksX8_fits_3 9 rfl rfl)
theorem dX8_fits_81 : decode cX8_fits 81 = .ok (.invokevirtual 353, 3) := dk_182 1 97 (dk_at dksX8_fits_3 11 rfl rfl)
theorem dX8_fits_84 : decode cX8_fits 84 = .ok (.iload_n 3, 1) := dk_29 (dk_at dksX8_fits_3 14 rfl rfl)
theorem dX8_fits_85 : decode cX8_fits 85 = .ok (.if_icmp .ne 6, 3) := dk_160 0 6 (dk_at dksX8_fits_3 15 rfl rfl)
theorem dX8_fits_88 : decode cX8_fits 88 = .ok (.iload 4, 2) := dk_21 4 (dk_at dksX8_fits_3 18 rfl rfl)
theorem dX8_fits_90 : decode cX8_fits 90 = .ok (.ireturn, 1) := dk_172 (dk_at dksX8_fits_3 20 rfl rfl)
theorem dX8_fits_91 : decode cX8_fits 91 = .ok (.iinc 4 1, 3) := dk_132 4 1 (dk_at dksX8_fits_3 21 rfl rfl)
theorem dX8_fits_94 : decode cX8_fits 94 = .ok (.goto (-32), 3) := dk_167 255 224 (dk_at dksX8_fits_4 0 rfl rfl)
theorem dX8_fits_97 : decode cX8_fits 97 = .ok (.iconst (-1), 1) := dk_2 (dk_at dksX8_fits_4 3 rfl rfl)
theorem dX8_fits_98 : decode cX8_fits 98 = .ok (.ireturn, 1) := dk_172 (dk_at dksX8_fits_4 4 rfl rfl)
abbrev cX8_hears : ByteArray := prog_21_method_99_code
def yX8_hears : MethodName := ⟨RX8, "hears", "()Z"⟩
def dkwX8_hears_5 : List UInt8 := [167, 255, 232, 42, 27, 6, 108, 181, 1, 85, 28, 172]
abbrev dktX8_hears_5 : List UInt8 := dkwX8_hears_5 ++ []
def dkwX8_hears_4 : List UInt8 := [27, 162, 0, 25, 28, 153, 0, 21, 42, 180, 0, 32, 29, 42, 180, 0, 22, 29, 46, 79, 132, 3, 1]
abbrev dktX8_hears_4 : List UInt8 := dkwX8_hears_4 ++ dktX8_hears_5
def dkwX8_hears_3 : List UInt8 := [180, 0, 22, 29, 46, 5, 162, 0, 7, 4, 167, 0, 4, 3, 61, 132, 3, 1, 167, 255, 198, 3, 62, 29]
abbrev dktX8_hears_3 : List UInt8 := dkwX8_hears_3 ++ dktX8_hears_4
def dkwX8_hears_2 : List UInt8 := [180, 0, 22, 29, 46, 42, 180, 0, 7, 6, 46, 162, 0, 7, 4, 167, 0, 22, 3, 167, 0, 18, 42]
abbrev dktX8_hears_2 : List UInt8 := dkwX8_hears_2 ++ dktX8_hears_3
def dkwX8_hears_1 : List UInt8 := [167, 0, 4, 3, 61, 3, 62, 29, 27, 162, 0, 59, 28, 153, 0, 55, 29, 6, 112, 5, 162, 0, 26, 42]
abbrev dktX8_hears_1 : List UInt8 := dkwX8_hears_1 ++ dktX8_hears_2
def dkwX8_hears_0 : List UInt8 := [42, 180, 0, 61, 60, 42, 3, 181, 0, 61, 27, 6, 112, 154, 0, 13, 27, 16, 36, 163, 0, 7, 4]
abbrev dktX8_hears_0 : List UInt8 := dkwX8_hears_0 ++ dktX8_hears_1
theorem dksX8_hears_0 : cX8_hears.data.toList.drop 0 = dktX8_hears_0 := by decide +kernel
theorem dksX8_hears_1 : cX8_hears.data.toList.drop 23 = dktX8_hears_1 := dk_seg dksX8_hears_0 23 rfl rfl
theorem dksX8_hears_2 : cX8_hears.data.toList.drop 47 = dktX8_hears_2 := dk_seg dksX8_hears_1 24 rfl rfl
theorem dksX8_hears_3 : cX8_hears.data.toList.drop 70 = dktX8_hears_3 := dk_seg dksX8_hears_2 23 rfl rfl
theorem dksX8_hears_4 : cX8_hears.data.toList.drop 94 = dktX8_hears_4 := dk_seg dksX8_hears_3 24 rfl rfl
theorem dksX8_hears_5 : cX8_hears.data.toList.drop 117 = dktX8_hears_5 := dk_seg dksX8_hears_4 23 rfl rfl
theorem dX8_hears_0 : decode cX8_hears 0 = .ok (.aload_n 0, 1) := dk_42 (dk_at dksX8_hears_0 0 rfl rfl)
theorem dX8_hears_1 : decode cX8_hears 1 = .ok (.getfield 61, 3) := dk_180 0 61 (dk_at dksX8_hears_0 1 rfl rfl)
theorem dX8_hears_4 : decode cX8_hears 4 = .ok (.istore_n 1, 1) := dk_60 (dk_at dksX8_hears_0 4 rfl rfl)
theorem dX8_hears_5 : decode cX8_hears 5 = .ok (.aload_n 0, 1) := dk_42 (dk_at dksX8_hears_0 5 rfl rfl)
theorem dX8_hears_6 : decode cX8_hears 6 = .ok (.iconst 0, 1) := dk_3 (dk_at dksX8_hears_0 6 rfl rfl)
theorem dX8_hears_7 : decode cX8_hears 7 = .ok (.putfield 61, 3) := dk_181 0 61 (dk_at dksX8_hears_0 7 rfl rfl)
theorem dX8_hears_10 : decode cX8_hears 10 = .ok (.iload_n 1, 1) := dk_27 (dk_at dksX8_hears_0 10 rfl rfl)
theorem dX8_hears_11 : decode cX8_hears 11 = .ok (.iconst 3, 1) := dk_6 (dk_at dksX8_hears_0 11 rfl rfl)
theorem dX8_hears_12 : decode cX8_hears 12 = .ok (.irem, 1) := dk_112 (dk_at dksX8_hears_0 12 rfl rfl)
theorem dX8_hears_13 : decode cX8_hears 13 = .ok (.ifCond .ne 13, 3) := dk_154 0 13 (dk_at dksX8_hears_0 13 rfl rfl)
theorem dX8_hears_16 : decode cX8_hears 16 = .ok (.iload_n 1, 1) := dk_27 (dk_at dksX8_hears_0 16 rfl rfl)
theorem dX8_hears_17 : decode cX8_hears 17 = .ok (.bipush 36, 2) := dk_16 36 (dk_at dksX8_hears_0 17 rfl rfl)
theorem dX8_hears_19 : decode cX8_hears 19 = .ok (.if_icmp .gt 7, 3) := dk_163 0 7 (dk_at dksX8_hears_0 19 rfl rfl)
theorem dX8_hears_22 : decode cX8_hears 22 = .ok (.iconst 1, 1) := dk_4 (dk_at dksX8_hears_0 22 rfl rfl)
theorem dX8_hears_23 : decode cX8_hears 23 = .ok (.goto 4, 3) := dk_167 0 4 (dk_at dksX8_hears_1 0 rfl rfl)
theorem dX8_hears_26 : decode cX8_hears 26 = .ok (.iconst 0, 1) := dk_3 (dk_at dksX8_hears_1 3 rfl rfl)
theorem dX8_hears_27 : decode cX8_hears 27 = .ok (.istore_n 2, 1) := dk_61 (dk_at dksX8_hears_1 4 rfl rfl)
theorem dX8_hears_28 : decode cX8_hears 28 = .ok (.iconst 0, 1) := dk_3 (dk_at dksX8_hears_1 5 rfl rfl)
theorem dX8_hears_29 : decode cX8_hears 29 = .ok (.istore_n 3, 1) := dk_62 (dk_at dksX8_hears_1 6 rfl rfl)
theorem dX8_hears_30 : decode cX8_hears 30 = .ok (.iload_n 3, 1) := dk_29 (dk_at dksX8_hears_1 7 rfl rfl)
theorem dX8_hears_31 : decode cX8_hears 31 = .ok (.iload_n 1, 1) := dk_27 (dk_at dksX8_hears_1 8 rfl rfl)
theorem dX8_hears_32 : decode cX8_hears 32 = .ok (.if_icmp .ge 59, 3) := dk_162 0 59 (dk_at dksX8_hears_1 9 rfl rfl)
theorem dX8_hears_35 : decode cX8_hears 35 = .ok (.iload_n 2, 1) := dk_28 (dk_at dksX8_hears_1 12 rfl rfl)
theorem dX8_hears_36 : decode cX8_hears 36 = .ok (.ifCond .eq 55, 3) := dk_153 0 55 (dk_at dksX8_hears_1 13 rfl rfl)
theorem dX8_hears_39 : decode cX8_hears 39 = .ok (.iload_n 3, 1) := dk_29 (dk_at dksX8_hears_1 16 rfl rfl)
theorem dX8_hears_40 : decode cX8_hears 40 = .ok (.iconst 3, 1) := dk_6 (dk_at dksX8_hears_1 17 rfl rfl)
theorem dX8_hears_41 : decode cX8_hears 41 = .ok (.irem, 1) := dk_112 (dk_at dksX8_hears_1 18 rfl rfl)
theorem dX8_hears_42 : decode cX8_hears 42 = .ok (.iconst 2, 1) := dk_5 (dk_at dksX8_hears_1 19 rfl rfl)
theorem dX8_hears_43 : decode cX8_hears 43 = .ok (.if_icmp .ge 26, 3) := dk_162 0 26 (dk_at dksX8_hears_1 20 rfl rfl)
theorem dX8_hears_46 : decode cX8_hears 46 = .ok (.aload_n 0, 1) := dk_42 (dk_at dksX8_hears_1 23 rfl rfl)
theorem dX8_hears_47 : decode cX8_hears 47 = .ok (.getfield 22, 3) := dk_180 0 22 (dk_at dksX8_hears_2 0 rfl rfl)
theorem dX8_hears_50 : decode cX8_hears 50 = .ok (.iload_n 3, 1) := dk_29 (dk_at dksX8_hears_2 3 rfl rfl)
theorem dX8_hears_51 : decode cX8_hears 51 = .ok (.iaload, 1) := dk_46 (dk_at dksX8_hears_2 4 rfl rfl)
theorem dX8_hears_52 : decode cX8_hears 52 = .ok (.aload_n 0, 1) := dk_42 (dk_at dksX8_hears_2 5 rfl rfl)
theorem dX8_hears_53 : decode cX8_hears 53 = .ok (.getfield 7, 3) := dk_180 0 7 (dk_at dksX8_hears_2 6 rfl rfl)
theorem dX8_hears_56 : decode cX8_hears 56 = .ok (.iconst 3, 1) := dk_6 (dk_at dksX8_hears_2 9 rfl rfl)
theorem dX8_hears_57 : decode cX8_hears 57 = .ok (.iaload, 1) := dk_46 (dk_at dksX8_hears_2 10 rfl rfl)
theorem dX8_hears_58 : decode cX8_hears 58 = .ok (.if_icmp .ge 7, 3) := dk_162 0 7 (dk_at dksX8_hears_2 11 rfl rfl)
theorem dX8_hears_61 : decode cX8_hears 61 = .ok (.iconst 1, 1) := dk_4 (dk_at dksX8_hears_2 14 rfl rfl)
theorem dX8_hears_62 : decode cX8_hears 62 = .ok (.goto 22, 3) := dk_167 0 22 (dk_at dksX8_hears_2 15 rfl rfl)
theorem dX8_hears_65 : decode cX8_hears 65 = .ok (.iconst 0, 1) := dk_3 (dk_at dksX8_hears_2 18 rfl rfl)
theorem dX8_hears_66 : decode cX8_hears 66 = .ok (.goto 18, 3) := dk_167 0 18 (dk_at dksX8_hears_2 19 rfl rfl)
theorem dX8_hears_69 : decode cX8_hears 69 = .ok (.aload_n 0, 1) := dk_42 (dk_at dksX8_hears_2 22 rfl rfl)
theorem dX8_hears_70 : decode cX8_hears 70 = .ok (.getfield 22, 3) := dk_180 0 22 (dk_at dksX8_hears_3 0 rfl rfl)
theorem dX8_hears_73 : decode cX8_hears 73 = .ok (.iload_n 3, 1) := dk_29 (dk_at dksX8_hears_3 3 rfl rfl)
theorem dX8_hears_74 : decode cX8_hears 74 = .ok (.iaload, 1) := dk_46 (dk_at dksX8_hears_3 4 rfl rfl)
theorem dX8_hears_75 : decode cX8_hears 75 = .ok (.iconst 2, 1) := dk_5 (dk_at dksX8_hears_3 5 rfl rfl)
theorem dX8_hears_76 : decode cX8_hears 76 = .ok (.if_icmp .ge 7, 3) := dk_162 0 7 (dk_at dksX8_hears_3 6 rfl rfl)
theorem dX8_hears_79 : decode cX8_hears 79 = .ok (.iconst 1, 1) := dk_4 (dk_at dksX8_hears_3 9 rfl rfl)
theorem dX8_hears_80 : decode cX8_hears 80 = .ok (.goto 4, 3) := dk_167 0 4 (dk_at dksX8_hears_3 10 rfl rfl)
theorem dX8_hears_83 : decode cX8_hears 83 = .ok (.iconst 0, 1) := dk_3 (dk_at dksX8_hears_3 13 rfl rfl)
theorem dX8_hears_84 : decode cX8_hears 84 = .ok (.istore_n 2, 1) := dk_61 (dk_at dksX8_hears_3 14 rfl rfl)
theorem dX8_hears_85 : decode cX8_hears 85 = .ok (.iinc 3 1, 3) := dk_132 3 1 (dk_at dksX8_hears_3 15 rfl rfl)
theorem dX8_hears_88 : decode cX8_hears 88 = .ok (.goto (-58), 3) := dk_167 255 198 (dk_at dksX8_hears_3 18 rfl rfl)
theorem dX8_hears_91 : decode cX8_hears 91 = .ok (.iconst 0, 1) := dk_3 (dk_at dksX8_hears_3 21 rfl rfl)
theorem dX8_hears_92 : decode cX8_hears 92 = .ok (.istore_n 3, 1) := dk_62 (dk_at dksX8_hears_3 22 rfl rfl)
theorem dX8_hears_93 : decode cX8_hears 93 = .ok (.iload_n 3, 1) := dk_29 (dk_at dksX8_hears_3 23 rfl rfl)
theorem dX8_hears_94 : decode cX8_hears 94 = .ok (.iload_n 1, 1) := dk_27 (dk_at dksX8_hears_4 0 rfl rfl)
theorem dX8_hears_95 : decode cX8_hears 95 = .ok (.if_icmp .ge 25, 3) := dk_162 0 25 (dk_at dksX8_hears_4 1 rfl rfl)
theorem dX8_hears_98 : decode cX8_hears 98 = .ok (.iload_n 2, 1) := dk_28 (dk_at dksX8_hears_4 4 rfl rfl)
theorem dX8_hears_99 : decode cX8_hears 99 = .ok (.ifCond .eq 21, 3) := dk_153 0 21 (dk_at dksX8_hears_4 5 rfl rfl)
theorem dX8_hears_102 : decode cX8_hears 102 = .ok (.aload_n 0, 1) := dk_42 (dk_at dksX8_hears_4 8 rfl rfl)
theorem dX8_hears_103 : decode cX8_hears 103 = .ok (.getfield 32, 3) := dk_180 0 32 (dk_at dksX8_hears_4 9 rfl rfl)
theorem dX8_hears_106 : decode cX8_hears 106 = .ok (.iload_n 3, 1) := dk_29 (dk_at dksX8_hears_4 12 rfl rfl)
theorem dX8_hears_107 : decode cX8_hears 107 = .ok (.aload_n 0, 1) := dk_42 (dk_at dksX8_hears_4 13 rfl rfl)
theorem dX8_hears_108 : decode cX8_hears 108 = .ok (.getfield 22, 3) := dk_180 0 22 (dk_at dksX8_hears_4 14 rfl rfl)
theorem dX8_hears_111 : decode cX8_hears 111 = .ok (.iload_n 3, 1) := dk_29 (dk_at dksX8_hears_4 17 rfl rfl)
theorem dX8_hears_112 : decode cX8_hears 112 = .ok (.iaload, 1) := dk_46 (dk_at dksX8_hears_4 18 rfl rfl)
theorem dX8_hears_113 : decode cX8_hears 113 = .ok (.iastore, 1) := dk_79 (dk_at dksX8_hears_4 19 rfl rfl)
theorem dX8_hears_114 : decode cX8_hears 114 = .ok (.iinc 3 1, 3) := dk_132 3 1 (dk_at dksX8_hears_4 20 rfl rfl)
theorem dX8_hears_117 : decode cX8_hears 117 = .ok (.goto (-24), 3) := dk_167 255 232 (dk_at dksX8_hears_5 0 rfl rfl)
theorem dX8_hears_120 : decode cX8_hears 120 = .ok (.aload_n 0, 1) := dk_42 (dk_at dksX8_hears_5 3 rfl rfl)
theorem dX8_hears_121 : decode cX8_hears 121 = .ok (.iload_n 1, 1) := dk_27 (dk_at dksX8_hears_5 4 rfl rfl)
theorem dX8_hears_122 : decode cX8_hears 122 = .ok (.iconst 3, 1) := dk_6 (dk_at dksX8_hears_5 5 rfl rfl)
theorem dX8_hears_123 : decode cX8_hears 123 = .ok (.idiv, 1) := dk_108 (dk_at dksX8_hears_5 6 rfl rfl)
theorem dX8_hears_124 : decode cX8_hears 124 = .ok (.putfield 341, 3) := dk_181 1 85 (dk_at dksX8_hears_5 7 rfl rfl)
theorem dX8_hears_127 : decode cX8_hears 127 = .ok (.iload_n 2, 1) := dk_28 (dk_at dksX8_hears_5 10 rfl rfl)
theorem dX8_hears_128 : decode cX8_hears 128 = .ok (.ireturn, 1) := dk_172 (dk_at dksX8_hears_5 11 rfl rfl)
abbrev cX8_owned : ByteArray := prog_21_method_100_code
def yX8_owned : MethodName := ⟨RX8, "owned", "(I)I"⟩
def dkwX8_owned_4 : List UInt8 := [21, 4, 167, 0, 7, 21, 4, 2, 130, 126, 79, 132, 3, 1, 167, 255, 181, 42, 182, 1, 88, 172]
abbrev dktX8_owned_4 : List UInt8 := dkwX8_owned_4 ++ []
def dkwX8_owned_3 : List UInt8 := [42, 180, 0, 32, 6, 29, 104, 46, 92, 46, 42, 180, 0, 32, 6, 29, 104, 5, 96, 46, 4, 160, 0, 8]
abbrev dktX8_owned_3 : List UInt8 := dkwX8_owned_3 ++ dktX8_owned_4
def dkwX8_owned_2 : List UInt8 := [154, 0, 6, 167, 0, 56, 4, 42, 180, 0, 32, 6, 29, 104, 4, 96, 46, 120, 54, 4, 42, 180, 0, 35]
abbrev dktX8_owned_2 : List UInt8 := dkwX8_owned_2 ++ dktX8_owned_3
def dkwX8_owned_1 : List UInt8 := [79, 132, 3, 1, 167, 255, 237, 3, 62, 29, 42, 180, 1, 85, 162, 0, 73, 27, 29, 184, 0, 107]
abbrev dktX8_owned_1 : List UInt8 := dkwX8_owned_1 ++ dktX8_owned_2
def dkwX8_owned_0 : List UInt8 := [42, 180, 0, 7, 6, 46, 61, 3, 62, 29, 28, 162, 0, 20, 42, 180, 0, 35, 29, 4, 28, 120, 4, 100]
abbrev dktX8_owned_0 : List UInt8 := dkwX8_owned_0 ++ dktX8_owned_1
theorem dksX8_owned_0 : cX8_owned.data.toList.drop 0 = dktX8_owned_0 := by decide +kernel
theorem dksX8_owned_1 : cX8_owned.data.toList.drop 24 = dktX8_owned_1 := dk_seg dksX8_owned_0 24 rfl rfl
theorem dksX8_owned_2 : cX8_owned.data.toList.drop 46 = dktX8_owned_2 := dk_seg dksX8_owned_1 22 rfl rfl
theorem dksX8_owned_3 : cX8_owned.data.toList.drop 70 = dktX8_owned_3 := dk_seg dksX8_owned_2 24 rfl rfl
theorem dksX8_owned_4 : cX8_owned.data.toList.drop 94 = dktX8_owned_4 := dk_seg dksX8_owned_3 24 rfl rfl
theorem dX8_owned_0 : decode cX8_owned 0 = .ok (.aload_n 0, 1) := dk_42 (dk_at dksX8_owned_0 0 rfl rfl)
theorem dX8_owned_1 : decode cX8_owned 1 = .ok (.getfield 7, 3) := dk_180 0 7 (dk_at dksX8_owned_0 1 rfl rfl)
theorem dX8_owned_4 : decode cX8_owned 4 = .ok (.iconst 3, 1) := dk_6 (dk_at dksX8_owned_0 4 rfl rfl)
theorem dX8_owned_5 : decode cX8_owned 5 = .ok (.iaload, 1) := dk_46 (dk_at dksX8_owned_0 5 rfl rfl)
theorem dX8_owned_6 : decode cX8_owned 6 = .ok (.istore_n 2, 1) := dk_61 (dk_at dksX8_owned_0 6 rfl rfl)
theorem dX8_owned_7 : decode cX8_owned 7 = .ok (.iconst 0, 1) := dk_3 (dk_at dksX8_owned_0 7 rfl rfl)
theorem dX8_owned_8 : decode cX8_owned 8 = .ok (.istore_n 3, 1) := dk_62 (dk_at dksX8_owned_0 8 rfl rfl)
theorem dX8_owned_9 : decode cX8_owned 9 = .ok (.iload_n 3, 1) := dk_29 (dk_at dksX8_owned_0 9 rfl rfl)
theorem dX8_owned_10 : decode cX8_owned 10 = .ok (.iload_n 2, 1) := dk_28 (dk_at dksX8_owned_0 10 rfl rfl)
theorem dX8_owned_11 : decode cX8_owned 11 = .ok (.if_icmp .ge 20, 3) := dk_162 0 20 (dk_at dksX8_owned_0 11 rfl rfl)
theorem dX8_owned_14 : decode cX8_owned 14 = .ok (.aload_n 0, 1) := dk_42 (dk_at dksX8_owned_0 14 rfl rfl)
theorem dX8_owned_15 : decode cX8_owned 15 = .ok (.getfield 35, 3) := dk_180 0 35 (dk_at dksX8_owned_0 15 rfl rfl)
theorem dX8_owned_18 : decode cX8_owned 18 = .ok (.iload_n 3, 1) := dk_29 (dk_at dksX8_owned_0 18 rfl rfl)
theorem dX8_owned_19 : decode cX8_owned 19 = .ok (.iconst 1, 1) := dk_4 (dk_at dksX8_owned_0 19 rfl rfl)
theorem dX8_owned_20 : decode cX8_owned 20 = .ok (.iload_n 2, 1) := dk_28 (dk_at dksX8_owned_0 20 rfl rfl)
theorem dX8_owned_21 : decode cX8_owned 21 = .ok (.ishl, 1) := dk_120 (dk_at dksX8_owned_0 21 rfl rfl)
theorem dX8_owned_22 : decode cX8_owned 22 = .ok (.iconst 1, 1) := dk_4 (dk_at dksX8_owned_0 22 rfl rfl)
theorem dX8_owned_23 : decode cX8_owned 23 = .ok (.isub, 1) := dk_100 (dk_at dksX8_owned_0 23 rfl rfl)
theorem dX8_owned_24 : decode cX8_owned 24 = .ok (.iastore, 1) := dk_79 (dk_at dksX8_owned_1 0 rfl rfl)
theorem dX8_owned_25 : decode cX8_owned 25 = .ok (.iinc 3 1, 3) := dk_132 3 1 (dk_at dksX8_owned_1 1 rfl rfl)
theorem dX8_owned_28 : decode cX8_owned 28 = .ok (.goto (-19), 3) := dk_167 255 237 (dk_at dksX8_owned_1 4 rfl rfl)
theorem dX8_owned_31 : decode cX8_owned 31 = .ok (.iconst 0, 1) := dk_3 (dk_at dksX8_owned_1 7 rfl rfl)
theorem dX8_owned_32 : decode cX8_owned 32 = .ok (.istore_n 3, 1) := dk_62 (dk_at dksX8_owned_1 8 rfl rfl)
theorem dX8_owned_33 : decode cX8_owned 33 = .ok (.iload_n 3, 1) := dk_29 (dk_at dksX8_owned_1 9 rfl rfl)
theorem dX8_owned_34 : decode cX8_owned 34 = .ok (.aload_n 0, 1) := dk_42 (dk_at dksX8_owned_1 10 rfl rfl)
theorem dX8_owned_35 : decode cX8_owned 35 = .ok (.getfield 341, 3) := dk_180 1 85 (dk_at dksX8_owned_1 11 rfl rfl)
theorem dX8_owned_38 : decode cX8_owned 38 = .ok (.if_icmp .ge 73, 3) := dk_162 0 73 (dk_at dksX8_owned_1 14 rfl rfl)
theorem dX8_owned_41 : decode cX8_owned 41 = .ok (.iload_n 1, 1) := dk_27 (dk_at dksX8_owned_1 17 rfl rfl)
theorem dX8_owned_42 : decode cX8_owned 42 = .ok (.iload_n 3, 1) := dk_29 (dk_at dksX8_owned_1 18 rfl rfl)
theorem dX8_owned_43 : decode cX8_owned 43 = .ok (.invokestatic 107, 3) := dk_184 0 107 (dk_at dksX8_owned_1 19 rfl rfl)
theorem dX8_owned_46 : decode cX8_owned 46 = .ok (.ifCond .ne 6, 3) := dk_154 0 6 (dk_at dksX8_owned_2 0 rfl rfl)
theorem dX8_owned_49 : decode cX8_owned 49 = .ok (.goto 56, 3) := dk_167 0 56 (dk_at dksX8_owned_2 3 rfl rfl)
theorem dX8_owned_52 : decode cX8_owned 52 = .ok (.iconst 1, 1) := dk_4 (dk_at dksX8_owned_2 6 rfl rfl)
theorem dX8_owned_53 : decode cX8_owned 53 = .ok (.aload_n 0, 1) := dk_42 (dk_at dksX8_owned_2 7 rfl rfl)
theorem dX8_owned_54 : decode cX8_owned 54 = .ok (.getfield 32, 3) := dk_180 0 32 (dk_at dksX8_owned_2 8 rfl rfl)
theorem dX8_owned_57 : decode cX8_owned 57 = .ok (.iconst 3, 1) := dk_6 (dk_at dksX8_owned_2 11 rfl rfl)
theorem dX8_owned_58 : decode cX8_owned 58 = .ok (.iload_n 3, 1) := dk_29 (dk_at dksX8_owned_2 12 rfl rfl)
theorem dX8_owned_59 : decode cX8_owned 59 = .ok (.imul, 1) := dk_104 (dk_at dksX8_owned_2 13 rfl rfl)
theorem dX8_owned_60 : decode cX8_owned 60 = .ok (.iconst 1, 1) := dk_4 (dk_at dksX8_owned_2 14 rfl rfl)
theorem dX8_owned_61 : decode cX8_owned 61 = .ok (.iadd, 1) := dk_96 (dk_at dksX8_owned_2 15 rfl rfl)
theorem dX8_owned_62 : decode cX8_owned 62 = .ok (.iaload, 1) := dk_46 (dk_at dksX8_owned_2 16 rfl rfl)
theorem dX8_owned_63 : decode cX8_owned 63 = .ok (.ishl, 1) := dk_120 (dk_at dksX8_owned_2 17 rfl rfl)
theorem dX8_owned_64 : decode cX8_owned 64 = .ok (.istore 4, 2) := dk_54 4 (dk_at dksX8_owned_2 18 rfl rfl)
theorem dX8_owned_66 : decode cX8_owned 66 = .ok (.aload_n 0, 1) := dk_42 (dk_at dksX8_owned_2 20 rfl rfl)
theorem dX8_owned_67 : decode cX8_owned 67 = .ok (.getfield 35, 3) := dk_180 0 35 (dk_at dksX8_owned_2 21 rfl rfl)
theorem dX8_owned_70 : decode cX8_owned 70 = .ok (.aload_n 0, 1) := dk_42 (dk_at dksX8_owned_3 0 rfl rfl)
theorem dX8_owned_71 : decode cX8_owned 71 = .ok (.getfield 32, 3) := dk_180 0 32 (dk_at dksX8_owned_3 1 rfl rfl)
theorem dX8_owned_74 : decode cX8_owned 74 = .ok (.iconst 3, 1) := dk_6 (dk_at dksX8_owned_3 4 rfl rfl)
theorem dX8_owned_75 : decode cX8_owned 75 = .ok (.iload_n 3, 1) := dk_29 (dk_at dksX8_owned_3 5 rfl rfl)
theorem dX8_owned_76 : decode cX8_owned 76 = .ok (.imul, 1) := dk_104 (dk_at dksX8_owned_3 6 rfl rfl)
theorem dX8_owned_77 : decode cX8_owned 77 = .ok (.iaload, 1) := dk_46 (dk_at dksX8_owned_3 7 rfl rfl)
theorem dX8_owned_78 : decode cX8_owned 78 = .ok (.dup2, 1) := dk_92 (dk_at dksX8_owned_3 8 rfl rfl)
theorem dX8_owned_79 : decode cX8_owned 79 = .ok (.iaload, 1) := dk_46 (dk_at dksX8_owned_3 9 rfl rfl)
theorem dX8_owned_80 : decode cX8_owned 80 = .ok (.aload_n 0, 1) := dk_42 (dk_at dksX8_owned_3 10 rfl rfl)
theorem dX8_owned_81 : decode cX8_owned 81 = .ok (.getfield 32, 3) := dk_180 0 32 (dk_at dksX8_owned_3 11 rfl rfl)
theorem dX8_owned_84 : decode cX8_owned 84 = .ok (.iconst 3, 1) := dk_6 (dk_at dksX8_owned_3 14 rfl rfl)
theorem dX8_owned_85 : decode cX8_owned 85 = .ok (.iload_n 3, 1) := dk_29 (dk_at dksX8_owned_3 15 rfl rfl)
theorem dX8_owned_86 : decode cX8_owned 86 = .ok (.imul, 1) := dk_104 (dk_at dksX8_owned_3 16 rfl rfl)
theorem dX8_owned_87 : decode cX8_owned 87 = .ok (.iconst 2, 1) := dk_5 (dk_at dksX8_owned_3 17 rfl rfl)
theorem dX8_owned_88 : decode cX8_owned 88 = .ok (.iadd, 1) := dk_96 (dk_at dksX8_owned_3 18 rfl rfl)
theorem dX8_owned_89 : decode cX8_owned 89 = .ok (.iaload, 1) := dk_46 (dk_at dksX8_owned_3 19 rfl rfl)
theorem dX8_owned_90 : decode cX8_owned 90 = .ok (.iconst 1, 1) := dk_4 (dk_at dksX8_owned_3 20 rfl rfl)
theorem dX8_owned_91 : decode cX8_owned 91 = .ok (.if_icmp .ne 8, 3) := dk_160 0 8 (dk_at dksX8_owned_3 21 rfl rfl)
theorem dX8_owned_94 : decode cX8_owned 94 = .ok (.iload 4, 2) := dk_21 4 (dk_at dksX8_owned_4 0 rfl rfl)
theorem dX8_owned_96 : decode cX8_owned 96 = .ok (.goto 7, 3) := dk_167 0 7 (dk_at dksX8_owned_4 2 rfl rfl)
theorem dX8_owned_99 : decode cX8_owned 99 = .ok (.iload 4, 2) := dk_21 4 (dk_at dksX8_owned_4 5 rfl rfl)
theorem dX8_owned_101 : decode cX8_owned 101 = .ok (.iconst (-1), 1) := dk_2 (dk_at dksX8_owned_4 7 rfl rfl)
theorem dX8_owned_102 : decode cX8_owned 102 = .ok (.ixor, 1) := dk_130 (dk_at dksX8_owned_4 8 rfl rfl)
theorem dX8_owned_103 : decode cX8_owned 103 = .ok (.iand, 1) := dk_126 (dk_at dksX8_owned_4 9 rfl rfl)
theorem dX8_owned_104 : decode cX8_owned 104 = .ok (.iastore, 1) := dk_79 (dk_at dksX8_owned_4 10 rfl rfl)
theorem dX8_owned_105 : decode cX8_owned 105 = .ok (.iinc 3 1, 3) := dk_132 3 1 (dk_at dksX8_owned_4 11 rfl rfl)
theorem dX8_owned_108 : decode cX8_owned 108 = .ok (.goto (-75), 3) := dk_167 255 181 (dk_at dksX8_owned_4 14 rfl rfl)
theorem dX8_owned_111 : decode cX8_owned 111 = .ok (.aload_n 0, 1) := dk_42 (dk_at dksX8_owned_4 17 rfl rfl)
theorem dX8_owned_112 : decode cX8_owned 112 = .ok (.invokevirtual 344, 3) := dk_182 1 88 (dk_at dksX8_owned_4 18 rfl rfl)
theorem dX8_owned_115 : decode cX8_owned 115 = .ok (.ireturn, 1) := dk_172 (dk_at dksX8_owned_4 21 rfl rfl)
abbrev cX8_counts : ByteArray := prog_21_method_101_code
def yX8_counts : MethodName := ⟨RX8, "counts", "()I"⟩
def dkwX8_counts_4 : List UInt8 := [79, 132, 2, 1, 167, 255, 172, 42, 180, 0, 38, 4, 27, 120, 4, 100, 46, 172]
abbrev dktX8_counts_4 : List UInt8 := dkwX8_counts_4 ++ []
def dkwX8_counts_3 : List UInt8 := [4, 21, 5, 120, 2, 130, 126, 46, 96, 54, 4, 132, 5, 1, 167, 255, 206, 42, 180, 0, 38, 28, 21, 4]
abbrev dktX8_counts_3 : List UInt8 := dkwX8_counts_3 ++ dktX8_counts_4
def dkwX8_counts_2 : List UInt8 := [153, 0, 35, 42, 180, 0, 35, 29, 46, 21, 5, 184, 0, 107, 153, 0, 21, 21, 4, 42, 180, 0, 38, 28]
abbrev dktX8_counts_2 : List UInt8 := dkwX8_counts_2 ++ dktX8_counts_3
def dkwX8_counts_1 : List UInt8 := [184, 0, 242, 4, 100, 62, 3, 54, 4, 3, 54, 5, 21, 5, 27, 162, 0, 50, 28, 21, 5, 184, 0, 107]
abbrev dktX8_counts_1 : List UInt8 := dkwX8_counts_1 ++ dktX8_counts_2
def dkwX8_counts_0 : List UInt8 := [42, 180, 0, 7, 6, 46, 60, 42, 180, 0, 38, 3, 4, 79, 4, 61, 28, 4, 27, 120, 162, 0, 83, 28]
abbrev dktX8_counts_0 : List UInt8 := dkwX8_counts_0 ++ dktX8_counts_1
theorem dksX8_counts_0 : cX8_counts.data.toList.drop 0 = dktX8_counts_0 := by decide +kernel
theorem dksX8_counts_1 : cX8_counts.data.toList.drop 24 = dktX8_counts_1 := dk_seg dksX8_counts_0 24 rfl rfl
theorem dksX8_counts_2 : cX8_counts.data.toList.drop 48 = dktX8_counts_2 := dk_seg dksX8_counts_1 24 rfl rfl
theorem dksX8_counts_3 : cX8_counts.data.toList.drop 72 = dktX8_counts_3 := dk_seg dksX8_counts_2 24 rfl rfl
theorem dksX8_counts_4 : cX8_counts.data.toList.drop 96 = dktX8_counts_4 := dk_seg dksX8_counts_3 24 rfl rfl
theorem dX8_counts_0 : decode cX8_counts 0 = .ok (.aload_n 0, 1) := dk_42 (dk_at dksX8_counts_0 0 rfl rfl)
theorem dX8_counts_1 : decode cX8_counts 1 = .ok (.getfield 7, 3) := dk_180 0 7 (dk_at dksX8_counts_0 1 rfl rfl)
theorem dX8_counts_4 : decode cX8_counts 4 = .ok (.iconst 3, 1) := dk_6 (dk_at dksX8_counts_0 4 rfl rfl)
theorem dX8_counts_5 : decode cX8_counts 5 = .ok (.iaload, 1) := dk_46 (dk_at dksX8_counts_0 5 rfl rfl)
theorem dX8_counts_6 : decode cX8_counts 6 = .ok (.istore_n 1, 1) := dk_60 (dk_at dksX8_counts_0 6 rfl rfl)
theorem dX8_counts_7 : decode cX8_counts 7 = .ok (.aload_n 0, 1) := dk_42 (dk_at dksX8_counts_0 7 rfl rfl)
theorem dX8_counts_8 : decode cX8_counts 8 = .ok (.getfield 38, 3) := dk_180 0 38 (dk_at dksX8_counts_0 8 rfl rfl)
theorem dX8_counts_11 : decode cX8_counts 11 = .ok (.iconst 0, 1) := dk_3 (dk_at dksX8_counts_0 11 rfl rfl)
theorem dX8_counts_12 : decode cX8_counts 12 = .ok (.iconst 1, 1) := dk_4 (dk_at dksX8_counts_0 12 rfl rfl)
theorem dX8_counts_13 : decode cX8_counts 13 = .ok (.iastore, 1) := dk_79 (dk_at dksX8_counts_0 13 rfl rfl)
theorem dX8_counts_14 : decode cX8_counts 14 = .ok (.iconst 1, 1) := dk_4 (dk_at dksX8_counts_0 14 rfl rfl)
theorem dX8_counts_15 : decode cX8_counts 15 = .ok (.istore_n 2, 1) := dk_61 (dk_at dksX8_counts_0 15 rfl rfl)
theorem dX8_counts_16 : decode cX8_counts 16 = .ok (.iload_n 2, 1) := dk_28 (dk_at dksX8_counts_0 16 rfl rfl)
theorem dX8_counts_17 : decode cX8_counts 17 = .ok (.iconst 1, 1) := dk_4 (dk_at dksX8_counts_0 17 rfl rfl)
theorem dX8_counts_18 : decode cX8_counts 18 = .ok (.iload_n 1, 1) := dk_27 (dk_at dksX8_counts_0 18 rfl rfl)
theorem dX8_counts_19 : decode cX8_counts 19 = .ok (.ishl, 1) := dk_120 (dk_at dksX8_counts_0 19 rfl rfl)
theorem dX8_counts_20 : decode cX8_counts 20 = .ok (.if_icmp .ge 83, 3) := dk_162 0 83 (dk_at dksX8_counts_0 20 rfl rfl)
theorem dX8_counts_23 : decode cX8_counts 23 = .ok (.iload_n 2, 1) := dk_28 (dk_at dksX8_counts_0 23 rfl rfl)
theorem dX8_counts_24 : decode cX8_counts 24 = .ok (.invokestatic 242, 3) := dk_184 0 242 (dk_at dksX8_counts_1 0 rfl rfl)
theorem dX8_counts_27 : decode cX8_counts 27 = .ok (.iconst 1, 1) := dk_4 (dk_at dksX8_counts_1 3 rfl rfl)
theorem dX8_counts_28 : decode cX8_counts 28 = .ok (.isub, 1) := dk_100 (dk_at dksX8_counts_1 4 rfl rfl)
theorem dX8_counts_29 : decode cX8_counts 29 = .ok (.istore_n 3, 1) := dk_62 (dk_at dksX8_counts_1 5 rfl rfl)
theorem dX8_counts_30 : decode cX8_counts 30 = .ok (.iconst 0, 1) := dk_3 (dk_at dksX8_counts_1 6 rfl rfl)
theorem dX8_counts_31 : decode cX8_counts 31 = .ok (.istore 4, 2) := dk_54 4 (dk_at dksX8_counts_1 7 rfl rfl)
theorem dX8_counts_33 : decode cX8_counts 33 = .ok (.iconst 0, 1) := dk_3 (dk_at dksX8_counts_1 9 rfl rfl)
theorem dX8_counts_34 : decode cX8_counts 34 = .ok (.istore 5, 2) := dk_54 5 (dk_at dksX8_counts_1 10 rfl rfl)
theorem dX8_counts_36 : decode cX8_counts 36 = .ok (.iload 5, 2) := dk_21 5 (dk_at dksX8_counts_1 12 rfl rfl)
theorem dX8_counts_38 : decode cX8_counts 38 = .ok (.iload_n 1, 1) := dk_27 (dk_at dksX8_counts_1 14 rfl rfl)
theorem dX8_counts_39 : decode cX8_counts 39 = .ok (.if_icmp .ge 50, 3) := dk_162 0 50 (dk_at dksX8_counts_1 15 rfl rfl)
theorem dX8_counts_42 : decode cX8_counts 42 = .ok (.iload_n 2, 1) := dk_28 (dk_at dksX8_counts_1 18 rfl rfl)
theorem dX8_counts_43 : decode cX8_counts 43 = .ok (.iload 5, 2) := dk_21 5 (dk_at dksX8_counts_1 19 rfl rfl)
theorem dX8_counts_45 : decode cX8_counts 45 = .ok (.invokestatic 107, 3) := dk_184 0 107 (dk_at dksX8_counts_1 21 rfl rfl)
theorem dX8_counts_48 : decode cX8_counts 48 = .ok (.ifCond .eq 35, 3) := dk_153 0 35 (dk_at dksX8_counts_2 0 rfl rfl)
theorem dX8_counts_51 : decode cX8_counts 51 = .ok (.aload_n 0, 1) := dk_42 (dk_at dksX8_counts_2 3 rfl rfl)
theorem dX8_counts_52 : decode cX8_counts 52 = .ok (.getfield 35, 3) := dk_180 0 35 (dk_at dksX8_counts_2 4 rfl rfl)
theorem dX8_counts_55 : decode cX8_counts 55 = .ok (.iload_n 3, 1) := dk_29 (dk_at dksX8_counts_2 7 rfl rfl)
theorem dX8_counts_56 : decode cX8_counts 56 = .ok (.iaload, 1) := dk_46 (dk_at dksX8_counts_2 8 rfl rfl)
theorem dX8_counts_57 : decode cX8_counts 57 = .ok (.iload 5, 2) := dk_21 5 (dk_at dksX8_counts_2 9 rfl rfl)
theorem dX8_counts_59 : decode cX8_counts 59 = .ok (.invokestatic 107, 3) := dk_184 0 107 (dk_at dksX8_counts_2 11 rfl rfl)
theorem dX8_counts_62 : decode cX8_counts 62 = .ok (.ifCond .eq 21, 3) := dk_153 0 21 (dk_at dksX8_counts_2 14 rfl rfl)
theorem dX8_counts_65 : decode cX8_counts 65 = .ok (.iload 4, 2) := dk_21 4 (dk_at dksX8_counts_2 17 rfl rfl)
theorem dX8_counts_67 : decode cX8_counts 67 = .ok (.aload_n 0, 1) := dk_42 (dk_at dksX8_counts_2 19 rfl rfl)
theorem dX8_counts_68 : decode cX8_counts 68 = .ok (.getfield 38, 3) := dk_180 0 38 (dk_at dksX8_counts_2 20 rfl rfl)
theorem dX8_counts_71 : decode cX8_counts 71 = .ok (.iload_n 2, 1) := dk_28 (dk_at dksX8_counts_2 23 rfl rfl)
theorem dX8_counts_72 : decode cX8_counts 72 = .ok (.iconst 1, 1) := dk_4 (dk_at dksX8_counts_3 0 rfl rfl)
theorem dX8_counts_73 : decode cX8_counts 73 = .ok (.iload 5, 2) := dk_21 5 (dk_at dksX8_counts_3 1 rfl rfl)
theorem dX8_counts_75 : decode cX8_counts 75 = .ok (.ishl, 1) := dk_120 (dk_at dksX8_counts_3 3 rfl rfl)
theorem dX8_counts_76 : decode cX8_counts 76 = .ok (.iconst (-1), 1) := dk_2 (dk_at dksX8_counts_3 4 rfl rfl)
theorem dX8_counts_77 : decode cX8_counts 77 = .ok (.ixor, 1) := dk_130 (dk_at dksX8_counts_3 5 rfl rfl)
theorem dX8_counts_78 : decode cX8_counts 78 = .ok (.iand, 1) := dk_126 (dk_at dksX8_counts_3 6 rfl rfl)
theorem dX8_counts_79 : decode cX8_counts 79 = .ok (.iaload, 1) := dk_46 (dk_at dksX8_counts_3 7 rfl rfl)
theorem dX8_counts_80 : decode cX8_counts 80 = .ok (.iadd, 1) := dk_96 (dk_at dksX8_counts_3 8 rfl rfl)
theorem dX8_counts_81 : decode cX8_counts 81 = .ok (.istore 4, 2) := dk_54 4 (dk_at dksX8_counts_3 9 rfl rfl)
theorem dX8_counts_83 : decode cX8_counts 83 = .ok (.iinc 5 1, 3) := dk_132 5 1 (dk_at dksX8_counts_3 11 rfl rfl)
theorem dX8_counts_86 : decode cX8_counts 86 = .ok (.goto (-50), 3) := dk_167 255 206 (dk_at dksX8_counts_3 14 rfl rfl)
theorem dX8_counts_89 : decode cX8_counts 89 = .ok (.aload_n 0, 1) := dk_42 (dk_at dksX8_counts_3 17 rfl rfl)
theorem dX8_counts_90 : decode cX8_counts 90 = .ok (.getfield 38, 3) := dk_180 0 38 (dk_at dksX8_counts_3 18 rfl rfl)
theorem dX8_counts_93 : decode cX8_counts 93 = .ok (.iload_n 2, 1) := dk_28 (dk_at dksX8_counts_3 21 rfl rfl)
theorem dX8_counts_94 : decode cX8_counts 94 = .ok (.iload 4, 2) := dk_21 4 (dk_at dksX8_counts_3 22 rfl rfl)
theorem dX8_counts_96 : decode cX8_counts 96 = .ok (.iastore, 1) := dk_79 (dk_at dksX8_counts_4 0 rfl rfl)
theorem dX8_counts_97 : decode cX8_counts 97 = .ok (.iinc 2 1, 3) := dk_132 2 1 (dk_at dksX8_counts_4 1 rfl rfl)
theorem dX8_counts_100 : decode cX8_counts 100 = .ok (.goto (-84), 3) := dk_167 255 172 (dk_at dksX8_counts_4 4 rfl rfl)
theorem dX8_counts_103 : decode cX8_counts 103 = .ok (.aload_n 0, 1) := dk_42 (dk_at dksX8_counts_4 7 rfl rfl)
theorem dX8_counts_104 : decode cX8_counts 104 = .ok (.getfield 38, 3) := dk_180 0 38 (dk_at dksX8_counts_4 8 rfl rfl)
theorem dX8_counts_107 : decode cX8_counts 107 = .ok (.iconst 1, 1) := dk_4 (dk_at dksX8_counts_4 11 rfl rfl)
theorem dX8_counts_108 : decode cX8_counts 108 = .ok (.iload_n 1, 1) := dk_27 (dk_at dksX8_counts_4 12 rfl rfl)
theorem dX8_counts_109 : decode cX8_counts 109 = .ok (.ishl, 1) := dk_120 (dk_at dksX8_counts_4 13 rfl rfl)
theorem dX8_counts_110 : decode cX8_counts 110 = .ok (.iconst 1, 1) := dk_4 (dk_at dksX8_counts_4 14 rfl rfl)
theorem dX8_counts_111 : decode cX8_counts 111 = .ok (.isub, 1) := dk_100 (dk_at dksX8_counts_4 15 rfl rfl)
theorem dX8_counts_112 : decode cX8_counts 112 = .ok (.iaload, 1) := dk_46 (dk_at dksX8_counts_4 16 rfl rfl)
theorem dX8_counts_113 : decode cX8_counts 113 = .ok (.ireturn, 1) := dk_172 (dk_at dksX8_counts_4 17 rfl rfl)
abbrev cX8_waysOf : ByteArray := prog_21_method_102_code
def yX8_waysOf : MethodName := ⟨RX8, "waysOf", "(II)I"⟩
def dkwX8_waysOf_1 : List UInt8 := [180, 0, 35, 27, 4, 28, 120, 79, 42, 182, 1, 88, 172]
abbrev dktX8_waysOf_1 : List UInt8 := dkwX8_waysOf_1 ++ []
def dkwX8_waysOf_0 : List UInt8 := [42, 17, 15, 255, 182, 1, 91, 62, 42, 180, 0, 35, 27, 46, 28, 184, 0, 107, 154, 0, 5, 3, 172, 42]
abbrev dktX8_waysOf_0 : List UInt8 := dkwX8_waysOf_0 ++ dktX8_waysOf_1
theorem dksX8_waysOf_0 : cX8_waysOf.data.toList.drop 0 = dktX8_waysOf_0 := by decide +kernel
theorem dksX8_waysOf_1 : cX8_waysOf.data.toList.drop 24 = dktX8_waysOf_1 := dk_seg dksX8_waysOf_0 24 rfl rfl
theorem dX8_waysOf_0 : decode cX8_waysOf 0 = .ok (.aload_n 0, 1) := dk_42 (dk_at dksX8_waysOf_0 0 rfl rfl)
theorem dX8_waysOf_1 : decode cX8_waysOf 1 = .ok (.sipush 4095, 3) := dk_17 15 255 (dk_at dksX8_waysOf_0 1 rfl rfl)
theorem dX8_waysOf_4 : decode cX8_waysOf 4 = .ok (.invokevirtual 347, 3) := dk_182 1 91 (dk_at dksX8_waysOf_0 4 rfl rfl)
theorem dX8_waysOf_7 : decode cX8_waysOf 7 = .ok (.istore_n 3, 1) := dk_62 (dk_at dksX8_waysOf_0 7 rfl rfl)
theorem dX8_waysOf_8 : decode cX8_waysOf 8 = .ok (.aload_n 0, 1) := dk_42 (dk_at dksX8_waysOf_0 8 rfl rfl)
theorem dX8_waysOf_9 : decode cX8_waysOf 9 = .ok (.getfield 35, 3) := dk_180 0 35 (dk_at dksX8_waysOf_0 9 rfl rfl)
theorem dX8_waysOf_12 : decode cX8_waysOf 12 = .ok (.iload_n 1, 1) := dk_27 (dk_at dksX8_waysOf_0 12 rfl rfl)
theorem dX8_waysOf_13 : decode cX8_waysOf 13 = .ok (.iaload, 1) := dk_46 (dk_at dksX8_waysOf_0 13 rfl rfl)
theorem dX8_waysOf_14 : decode cX8_waysOf 14 = .ok (.iload_n 2, 1) := dk_28 (dk_at dksX8_waysOf_0 14 rfl rfl)
theorem dX8_waysOf_15 : decode cX8_waysOf 15 = .ok (.invokestatic 107, 3) := dk_184 0 107 (dk_at dksX8_waysOf_0 15 rfl rfl)
theorem dX8_waysOf_18 : decode cX8_waysOf 18 = .ok (.ifCond .ne 5, 3) := dk_154 0 5 (dk_at dksX8_waysOf_0 18 rfl rfl)
theorem dX8_waysOf_21 : decode cX8_waysOf 21 = .ok (.iconst 0, 1) := dk_3 (dk_at dksX8_waysOf_0 21 rfl rfl)
theorem dX8_waysOf_22 : decode cX8_waysOf 22 = .ok (.ireturn, 1) := dk_172 (dk_at dksX8_waysOf_0 22 rfl rfl)
theorem dX8_waysOf_23 : decode cX8_waysOf 23 = .ok (.aload_n 0, 1) := dk_42 (dk_at dksX8_waysOf_0 23 rfl rfl)
theorem dX8_waysOf_24 : decode cX8_waysOf 24 = .ok (.getfield 35, 3) := dk_180 0 35 (dk_at dksX8_waysOf_1 0 rfl rfl)
theorem dX8_waysOf_27 : decode cX8_waysOf 27 = .ok (.iload_n 1, 1) := dk_27 (dk_at dksX8_waysOf_1 3 rfl rfl)
theorem dX8_waysOf_28 : decode cX8_waysOf 28 = .ok (.iconst 1, 1) := dk_4 (dk_at dksX8_waysOf_1 4 rfl rfl)
theorem dX8_waysOf_29 : decode cX8_waysOf 29 = .ok (.iload_n 2, 1) := dk_28 (dk_at dksX8_waysOf_1 5 rfl rfl)
theorem dX8_waysOf_30 : decode cX8_waysOf 30 = .ok (.ishl, 1) := dk_120 (dk_at dksX8_waysOf_1 6 rfl rfl)
theorem dX8_waysOf_31 : decode cX8_waysOf 31 = .ok (.iastore, 1) := dk_79 (dk_at dksX8_waysOf_1 7 rfl rfl)
theorem dX8_waysOf_32 : decode cX8_waysOf 32 = .ok (.aload_n 0, 1) := dk_42 (dk_at dksX8_waysOf_1 8 rfl rfl)
theorem dX8_waysOf_33 : decode cX8_waysOf 33 = .ok (.invokevirtual 344, 3) := dk_182 1 88 (dk_at dksX8_waysOf_1 9 rfl rfl)
theorem dX8_waysOf_36 : decode cX8_waysOf 36 = .ok (.ireturn, 1) := dk_172 (dk_at dksX8_waysOf_1 12 rfl rfl)
abbrev cX8_ask : ByteArray := prog_21_method_104_code
def yX8_ask : MethodName := ⟨RX8, "ask", "(I)I"⟩
def dkwX8_ask_5 : List UInt8 := [167, 255, 196, 21, 4, 172]
abbrev dktX8_ask_5 : List UInt8 := dkwX8_ask_5 ++ []
def dkwX8_ask_4 : List UInt8 := [161, 0, 6, 167, 0, 18, 21, 7, 29, 21, 7, 100, 184, 0, 150, 54, 5, 21, 6, 54, 4, 132, 6, 1]
abbrev dktX8_ask_4 : List UInt8 := dkwX8_ask_4 ++ dktX8_ask_5
def dkwX8_ask_3 : List UInt8 := [164, 0, 50, 42, 27, 21, 6, 182, 1, 97, 54, 7, 21, 7, 29, 21, 7, 100, 184, 0, 150, 21, 5]
abbrev dktX8_ask_3 : List UInt8 := dkwX8_ask_3 ++ dktX8_ask_4
def dkwX8_ask_2 : List UInt8 := [2, 54, 4, 19, 1, 100, 54, 5, 3, 54, 6, 21, 6, 42, 180, 0, 7, 6, 46, 162, 0, 55, 29, 4]
abbrev dktX8_ask_2 : List UInt8 := dkwX8_ask_2 ++ dktX8_ask_3
def dkwX8_ask_1 : List UInt8 := [167, 0, 4, 3, 181, 0, 50, 42, 180, 0, 50, 158, 0, 5, 3, 172, 42, 17, 15, 255, 182, 1, 91, 62]
abbrev dktX8_ask_1 : List UInt8 := dkwX8_ask_1 ++ dktX8_ask_2
def dkwX8_ask_0 : List UInt8 := [42, 182, 1, 94, 61, 42, 42, 27, 182, 0, 250, 154, 0, 7, 4, 167, 0, 12, 28, 154, 0, 7, 5]
abbrev dktX8_ask_0 : List UInt8 := dkwX8_ask_0 ++ dktX8_ask_1
theorem dksX8_ask_0 : cX8_ask.data.toList.drop 0 = dktX8_ask_0 := by decide +kernel
theorem dksX8_ask_1 : cX8_ask.data.toList.drop 23 = dktX8_ask_1 := dk_seg dksX8_ask_0 23 rfl rfl
theorem dksX8_ask_2 : cX8_ask.data.toList.drop 47 = dktX8_ask_2 := dk_seg dksX8_ask_1 24 rfl rfl
theorem dksX8_ask_3 : cX8_ask.data.toList.drop 71 = dktX8_ask_3 := dk_seg dksX8_ask_2 24 rfl rfl
theorem dksX8_ask_4 : cX8_ask.data.toList.drop 94 = dktX8_ask_4 := dk_seg dksX8_ask_3 23 rfl rfl
theorem dksX8_ask_5 : cX8_ask.data.toList.drop 118 = dktX8_ask_5 := dk_seg dksX8_ask_4 24 rfl rfl
theorem dX8_ask_0 : decode cX8_ask 0 = .ok (.aload_n 0, 1) := dk_42 (dk_at dksX8_ask_0 0 rfl rfl)
theorem dX8_ask_1 : decode cX8_ask 1 = .ok (.invokevirtual 350, 3) := dk_182 1 94 (dk_at dksX8_ask_0 1 rfl rfl)
theorem dX8_ask_4 : decode cX8_ask 4 = .ok (.istore_n 2, 1) := dk_61 (dk_at dksX8_ask_0 4 rfl rfl)
theorem dX8_ask_5 : decode cX8_ask 5 = .ok (.aload_n 0, 1) := dk_42 (dk_at dksX8_ask_0 5 rfl rfl)
theorem dX8_ask_6 : decode cX8_ask 6 = .ok (.aload_n 0, 1) := dk_42 (dk_at dksX8_ask_0 6 rfl rfl)
theorem dX8_ask_7 : decode cX8_ask 7 = .ok (.iload_n 1, 1) := dk_27 (dk_at dksX8_ask_0 7 rfl rfl)
theorem dX8_ask_8 : decode cX8_ask 8 = .ok (.invokevirtual 250, 3) := dk_182 0 250 (dk_at dksX8_ask_0 8 rfl rfl)
theorem dX8_ask_11 : decode cX8_ask 11 = .ok (.ifCond .ne 7, 3) := dk_154 0 7 (dk_at dksX8_ask_0 11 rfl rfl)
theorem dX8_ask_14 : decode cX8_ask 14 = .ok (.iconst 1, 1) := dk_4 (dk_at dksX8_ask_0 14 rfl rfl)
theorem dX8_ask_15 : decode cX8_ask 15 = .ok (.goto 12, 3) := dk_167 0 12 (dk_at dksX8_ask_0 15 rfl rfl)
theorem dX8_ask_18 : decode cX8_ask 18 = .ok (.iload_n 2, 1) := dk_28 (dk_at dksX8_ask_0 18 rfl rfl)
theorem dX8_ask_19 : decode cX8_ask 19 = .ok (.ifCond .ne 7, 3) := dk_154 0 7 (dk_at dksX8_ask_0 19 rfl rfl)
theorem dX8_ask_22 : decode cX8_ask 22 = .ok (.iconst 2, 1) := dk_5 (dk_at dksX8_ask_0 22 rfl rfl)
theorem dX8_ask_23 : decode cX8_ask 23 = .ok (.goto 4, 3) := dk_167 0 4 (dk_at dksX8_ask_1 0 rfl rfl)
theorem dX8_ask_26 : decode cX8_ask 26 = .ok (.iconst 0, 1) := dk_3 (dk_at dksX8_ask_1 3 rfl rfl)
theorem dX8_ask_27 : decode cX8_ask 27 = .ok (.putfield 50, 3) := dk_181 0 50 (dk_at dksX8_ask_1 4 rfl rfl)
theorem dX8_ask_30 : decode cX8_ask 30 = .ok (.aload_n 0, 1) := dk_42 (dk_at dksX8_ask_1 7 rfl rfl)
theorem dX8_ask_31 : decode cX8_ask 31 = .ok (.getfield 50, 3) := dk_180 0 50 (dk_at dksX8_ask_1 8 rfl rfl)
theorem dX8_ask_34 : decode cX8_ask 34 = .ok (.ifCond .le 5, 3) := dk_158 0 5 (dk_at dksX8_ask_1 11 rfl rfl)
theorem dX8_ask_37 : decode cX8_ask 37 = .ok (.iconst 0, 1) := dk_3 (dk_at dksX8_ask_1 14 rfl rfl)
theorem dX8_ask_38 : decode cX8_ask 38 = .ok (.ireturn, 1) := dk_172 (dk_at dksX8_ask_1 15 rfl rfl)
theorem dX8_ask_39 : decode cX8_ask 39 = .ok (.aload_n 0, 1) := dk_42 (dk_at dksX8_ask_1 16 rfl rfl)
theorem dX8_ask_40 : decode cX8_ask 40 = .ok (.sipush 4095, 3) := dk_17 15 255 (dk_at dksX8_ask_1 17 rfl rfl)
theorem dX8_ask_43 : decode cX8_ask 43 = .ok (.invokevirtual 347, 3) := dk_182 1 91 (dk_at dksX8_ask_1 20 rfl rfl)
theorem dX8_ask_46 : decode cX8_ask 46 = .ok (.istore_n 3, 1) := dk_62 (dk_at dksX8_ask_1 23 rfl rfl)
theorem dX8_ask_47 : decode cX8_ask 47 = .ok (.iconst (-1), 1) := dk_2 (dk_at dksX8_ask_2 0 rfl rfl)
theorem dX8_ask_48 : decode cX8_ask 48 = .ok (.istore 4, 2) := dk_54 4 (dk_at dksX8_ask_2 1 rfl rfl)
theorem dX8_ask_50 : decode cX8_ask 50 = .ok (.ldc_w 356, 3) := dk_19 1 100 (dk_at dksX8_ask_2 3 rfl rfl)
theorem dX8_ask_53 : decode cX8_ask 53 = .ok (.istore 5, 2) := dk_54 5 (dk_at dksX8_ask_2 6 rfl rfl)
theorem dX8_ask_55 : decode cX8_ask 55 = .ok (.iconst 0, 1) := dk_3 (dk_at dksX8_ask_2 8 rfl rfl)
theorem dX8_ask_56 : decode cX8_ask 56 = .ok (.istore 6, 2) := dk_54 6 (dk_at dksX8_ask_2 9 rfl rfl)
theorem dX8_ask_58 : decode cX8_ask 58 = .ok (.iload 6, 2) := dk_21 6 (dk_at dksX8_ask_2 11 rfl rfl)
theorem dX8_ask_60 : decode cX8_ask 60 = .ok (.aload_n 0, 1) := dk_42 (dk_at dksX8_ask_2 13 rfl rfl)
theorem dX8_ask_61 : decode cX8_ask 61 = .ok (.getfield 7, 3) := dk_180 0 7 (dk_at dksX8_ask_2 14 rfl rfl)
theorem dX8_ask_64 : decode cX8_ask 64 = .ok (.iconst 3, 1) := dk_6 (dk_at dksX8_ask_2 17 rfl rfl)
theorem dX8_ask_65 : decode cX8_ask 65 = .ok (.iaload, 1) := dk_46 (dk_at dksX8_ask_2 18 rfl rfl)
theorem dX8_ask_66 : decode cX8_ask 66 = .ok (.if_icmp .ge 55, 3) := dk_162 0 55 (dk_at dksX8_ask_2 19 rfl rfl)
theorem dX8_ask_69 : decode cX8_ask 69 = .ok (.iload_n 3, 1) := dk_29 (dk_at dksX8_ask_2 22 rfl rfl)
theorem dX8_ask_70 : decode cX8_ask 70 = .ok (.iconst 1, 1) := dk_4 (dk_at dksX8_ask_2 23 rfl rfl)
theorem dX8_ask_71 : decode cX8_ask 71 = .ok (.if_icmp .le 50, 3) := dk_164 0 50 (dk_at dksX8_ask_3 0 rfl rfl)
theorem dX8_ask_74 : decode cX8_ask 74 = .ok (.aload_n 0, 1) := dk_42 (dk_at dksX8_ask_3 3 rfl rfl)
theorem dX8_ask_75 : decode cX8_ask 75 = .ok (.iload_n 1, 1) := dk_27 (dk_at dksX8_ask_3 4 rfl rfl)
theorem dX8_ask_76 : decode cX8_ask 76 = .ok (.iload 6, 2) := dk_21 6 (dk_at dksX8_ask_3 5 rfl rfl)
theorem dX8_ask_78 : decode cX8_ask 78 = .ok (.invokevirtual 353, 3) := dk_182 1 97 (dk_at dksX8_ask_3 7 rfl rfl)
theorem dX8_ask_81 : decode cX8_ask 81 = .ok (.istore 7, 2) := dk_54 7 (dk_at dksX8_ask_3 10 rfl rfl)
theorem dX8_ask_83 : decode cX8_ask 83 = .ok (.iload 7, 2) := dk_21 7 (dk_at dksX8_ask_3 12 rfl rfl)
theorem dX8_ask_85 : decode cX8_ask 85 = .ok (.iload_n 3, 1) := dk_29 (dk_at dksX8_ask_3 14 rfl rfl)
theorem dX8_ask_86 : decode cX8_ask 86 = .ok (.iload 7, 2) := dk_21 7 (dk_at dksX8_ask_3 15 rfl rfl)
theorem dX8_ask_88 : decode cX8_ask 88 = .ok (.isub, 1) := dk_100 (dk_at dksX8_ask_3 17 rfl rfl)
theorem dX8_ask_89 : decode cX8_ask 89 = .ok (.invokestatic 150, 3) := dk_184 0 150 (dk_at dksX8_ask_3 18 rfl rfl)
theorem dX8_ask_92 : decode cX8_ask 92 = .ok (.iload 5, 2) := dk_21 5 (dk_at dksX8_ask_3 21 rfl rfl)
theorem dX8_ask_94 : decode cX8_ask 94 = .ok (.if_icmp .lt 6, 3) := dk_161 0 6 (dk_at dksX8_ask_4 0 rfl rfl)
theorem dX8_ask_97 : decode cX8_ask 97 = .ok (.goto 18, 3) := dk_167 0 18 (dk_at dksX8_ask_4 3 rfl rfl)
theorem dX8_ask_100 : decode cX8_ask 100 = .ok (.iload 7, 2) := dk_21 7 (dk_at dksX8_ask_4 6 rfl rfl)
theorem dX8_ask_102 : decode cX8_ask 102 = .ok (.iload_n 3, 1) := dk_29 (dk_at dksX8_ask_4 8 rfl rfl)
theorem dX8_ask_103 : decode cX8_ask 103 = .ok (.iload 7, 2) := dk_21 7 (dk_at dksX8_ask_4 9 rfl rfl)
theorem dX8_ask_105 : decode cX8_ask 105 = .ok (.isub, 1) := dk_100 (dk_at dksX8_ask_4 11 rfl rfl)
theorem dX8_ask_106 : decode cX8_ask 106 = .ok (.invokestatic 150, 3) := dk_184 0 150 (dk_at dksX8_ask_4 12 rfl rfl)
theorem dX8_ask_109 : decode cX8_ask 109 = .ok (.istore 5, 2) := dk_54 5 (dk_at dksX8_ask_4 15 rfl rfl)
theorem dX8_ask_111 : decode cX8_ask 111 = .ok (.iload 6, 2) := dk_21 6 (dk_at dksX8_ask_4 17 rfl rfl)
theorem dX8_ask_113 : decode cX8_ask 113 = .ok (.istore 4, 2) := dk_54 4 (dk_at dksX8_ask_4 19 rfl rfl)
theorem dX8_ask_115 : decode cX8_ask 115 = .ok (.iinc 6 1, 3) := dk_132 6 1 (dk_at dksX8_ask_4 21 rfl rfl)
theorem dX8_ask_118 : decode cX8_ask 118 = .ok (.goto (-60), 3) := dk_167 255 196 (dk_at dksX8_ask_5 0 rfl rfl)
theorem dX8_ask_121 : decode cX8_ask 121 = .ok (.iload 4, 2) := dk_21 4 (dk_at dksX8_ask_5 3 rfl rfl)
theorem dX8_ask_123 : decode cX8_ask 123 = .ok (.ireturn, 1) := dk_172 (dk_at dksX8_ask_5 5 rfl rfl)
abbrev cX8_clash : ByteArray := prog_21_method_105_code
def yX8_clash : MethodName := ⟨RX8, "clash", "()I"⟩
def dkwX8_clash_3 : List UInt8 := [29, 182, 1, 91, 154, 0, 5, 29, 61, 132, 3, 1, 167, 255, 217, 28, 172]
abbrev dktX8_clash_3 : List UInt8 := dkwX8_clash_3 ++ []
def dkwX8_clash_2 : List UInt8 := [180, 1, 85, 120, 162, 0, 35, 28, 2, 159, 0, 14, 29, 184, 0, 242, 28, 184, 0, 242, 162, 0, 13, 42]
abbrev dktX8_clash_2 : List UInt8 := dkwX8_clash_2 ++ dktX8_clash_3
def dkwX8_clash_1 : List UInt8 := [157, 0, 13, 42, 17, 15, 255, 182, 1, 91, 158, 0, 5, 3, 172, 2, 61, 3, 62, 29, 4, 42]
abbrev dktX8_clash_1 : List UInt8 := dkwX8_clash_1 ++ dktX8_clash_2
def dkwX8_clash_0 : List UInt8 := [42, 182, 1, 94, 60, 42, 27, 153, 0, 7, 3, 167, 0, 4, 4, 181, 0, 50, 42, 180, 0, 50]
abbrev dktX8_clash_0 : List UInt8 := dkwX8_clash_0 ++ dktX8_clash_1
theorem dksX8_clash_0 : cX8_clash.data.toList.drop 0 = dktX8_clash_0 := by decide +kernel
theorem dksX8_clash_1 : cX8_clash.data.toList.drop 22 = dktX8_clash_1 := dk_seg dksX8_clash_0 22 rfl rfl
theorem dksX8_clash_2 : cX8_clash.data.toList.drop 44 = dktX8_clash_2 := dk_seg dksX8_clash_1 22 rfl rfl
theorem dksX8_clash_3 : cX8_clash.data.toList.drop 68 = dktX8_clash_3 := dk_seg dksX8_clash_2 24 rfl rfl
theorem dX8_clash_0 : decode cX8_clash 0 = .ok (.aload_n 0, 1) := dk_42 (dk_at dksX8_clash_0 0 rfl rfl)
theorem dX8_clash_1 : decode cX8_clash 1 = .ok (.invokevirtual 350, 3) := dk_182 1 94 (dk_at dksX8_clash_0 1 rfl rfl)
theorem dX8_clash_4 : decode cX8_clash 4 = .ok (.istore_n 1, 1) := dk_60 (dk_at dksX8_clash_0 4 rfl rfl)
theorem dX8_clash_5 : decode cX8_clash 5 = .ok (.aload_n 0, 1) := dk_42 (dk_at dksX8_clash_0 5 rfl rfl)
theorem dX8_clash_6 : decode cX8_clash 6 = .ok (.iload_n 1, 1) := dk_27 (dk_at dksX8_clash_0 6 rfl rfl)
theorem dX8_clash_7 : decode cX8_clash 7 = .ok (.ifCond .eq 7, 3) := dk_153 0 7 (dk_at dksX8_clash_0 7 rfl rfl)
theorem dX8_clash_10 : decode cX8_clash 10 = .ok (.iconst 0, 1) := dk_3 (dk_at dksX8_clash_0 10 rfl rfl)
theorem dX8_clash_11 : decode cX8_clash 11 = .ok (.goto 4, 3) := dk_167 0 4 (dk_at dksX8_clash_0 11 rfl rfl)
theorem dX8_clash_14 : decode cX8_clash 14 = .ok (.iconst 1, 1) := dk_4 (dk_at dksX8_clash_0 14 rfl rfl)
theorem dX8_clash_15 : decode cX8_clash 15 = .ok (.putfield 50, 3) := dk_181 0 50 (dk_at dksX8_clash_0 15 rfl rfl)
theorem dX8_clash_18 : decode cX8_clash 18 = .ok (.aload_n 0, 1) := dk_42 (dk_at dksX8_clash_0 18 rfl rfl)
theorem dX8_clash_19 : decode cX8_clash 19 = .ok (.getfield 50, 3) := dk_180 0 50 (dk_at dksX8_clash_0 19 rfl rfl)
theorem dX8_clash_22 : decode cX8_clash 22 = .ok (.ifCond .gt 13, 3) := dk_157 0 13 (dk_at dksX8_clash_1 0 rfl rfl)
theorem dX8_clash_25 : decode cX8_clash 25 = .ok (.aload_n 0, 1) := dk_42 (dk_at dksX8_clash_1 3 rfl rfl)
theorem dX8_clash_26 : decode cX8_clash 26 = .ok (.sipush 4095, 3) := dk_17 15 255 (dk_at dksX8_clash_1 4 rfl rfl)
theorem dX8_clash_29 : decode cX8_clash 29 = .ok (.invokevirtual 347, 3) := dk_182 1 91 (dk_at dksX8_clash_1 7 rfl rfl)
theorem dX8_clash_32 : decode cX8_clash 32 = .ok (.ifCond .le 5, 3) := dk_158 0 5 (dk_at dksX8_clash_1 10 rfl rfl)
theorem dX8_clash_35 : decode cX8_clash 35 = .ok (.iconst 0, 1) := dk_3 (dk_at dksX8_clash_1 13 rfl rfl)
theorem dX8_clash_36 : decode cX8_clash 36 = .ok (.ireturn, 1) := dk_172 (dk_at dksX8_clash_1 14 rfl rfl)
theorem dX8_clash_37 : decode cX8_clash 37 = .ok (.iconst (-1), 1) := dk_2 (dk_at dksX8_clash_1 15 rfl rfl)
theorem dX8_clash_38 : decode cX8_clash 38 = .ok (.istore_n 2, 1) := dk_61 (dk_at dksX8_clash_1 16 rfl rfl)
theorem dX8_clash_39 : decode cX8_clash 39 = .ok (.iconst 0, 1) := dk_3 (dk_at dksX8_clash_1 17 rfl rfl)
theorem dX8_clash_40 : decode cX8_clash 40 = .ok (.istore_n 3, 1) := dk_62 (dk_at dksX8_clash_1 18 rfl rfl)
theorem dX8_clash_41 : decode cX8_clash 41 = .ok (.iload_n 3, 1) := dk_29 (dk_at dksX8_clash_1 19 rfl rfl)
theorem dX8_clash_42 : decode cX8_clash 42 = .ok (.iconst 1, 1) := dk_4 (dk_at dksX8_clash_1 20 rfl rfl)
theorem dX8_clash_43 : decode cX8_clash 43 = .ok (.aload_n 0, 1) := dk_42 (dk_at dksX8_clash_1 21 rfl rfl)
theorem dX8_clash_44 : decode cX8_clash 44 = .ok (.getfield 341, 3) := dk_180 1 85 (dk_at dksX8_clash_2 0 rfl rfl)
theorem dX8_clash_47 : decode cX8_clash 47 = .ok (.ishl, 1) := dk_120 (dk_at dksX8_clash_2 3 rfl rfl)
theorem dX8_clash_48 : decode cX8_clash 48 = .ok (.if_icmp .ge 35, 3) := dk_162 0 35 (dk_at dksX8_clash_2 4 rfl rfl)
theorem dX8_clash_51 : decode cX8_clash 51 = .ok (.iload_n 2, 1) := dk_28 (dk_at dksX8_clash_2 7 rfl rfl)
theorem dX8_clash_52 : decode cX8_clash 52 = .ok (.iconst (-1), 1) := dk_2 (dk_at dksX8_clash_2 8 rfl rfl)
theorem dX8_clash_53 : decode cX8_clash 53 = .ok (.if_icmp .eq 14, 3) := dk_159 0 14 (dk_at dksX8_clash_2 9 rfl rfl)
theorem dX8_clash_56 : decode cX8_clash 56 = .ok (.iload_n 3, 1) := dk_29 (dk_at dksX8_clash_2 12 rfl rfl)
theorem dX8_clash_57 : decode cX8_clash 57 = .ok (.invokestatic 242, 3) := dk_184 0 242 (dk_at dksX8_clash_2 13 rfl rfl)
theorem dX8_clash_60 : decode cX8_clash 60 = .ok (.iload_n 2, 1) := dk_28 (dk_at dksX8_clash_2 16 rfl rfl)
theorem dX8_clash_61 : decode cX8_clash 61 = .ok (.invokestatic 242, 3) := dk_184 0 242 (dk_at dksX8_clash_2 17 rfl rfl)
theorem dX8_clash_64 : decode cX8_clash 64 = .ok (.if_icmp .ge 13, 3) := dk_162 0 13 (dk_at dksX8_clash_2 20 rfl rfl)
theorem dX8_clash_67 : decode cX8_clash 67 = .ok (.aload_n 0, 1) := dk_42 (dk_at dksX8_clash_2 23 rfl rfl)
theorem dX8_clash_68 : decode cX8_clash 68 = .ok (.iload_n 3, 1) := dk_29 (dk_at dksX8_clash_3 0 rfl rfl)
theorem dX8_clash_69 : decode cX8_clash 69 = .ok (.invokevirtual 347, 3) := dk_182 1 91 (dk_at dksX8_clash_3 1 rfl rfl)
theorem dX8_clash_72 : decode cX8_clash 72 = .ok (.ifCond .ne 5, 3) := dk_154 0 5 (dk_at dksX8_clash_3 4 rfl rfl)
theorem dX8_clash_75 : decode cX8_clash 75 = .ok (.iload_n 3, 1) := dk_29 (dk_at dksX8_clash_3 7 rfl rfl)
theorem dX8_clash_76 : decode cX8_clash 76 = .ok (.istore_n 2, 1) := dk_61 (dk_at dksX8_clash_3 8 rfl rfl)
theorem dX8_clash_77 : decode cX8_clash 77 = .ok (.iinc 3 1, 3) := dk_132 3 1 (dk_at dksX8_clash_3 9 rfl rfl)
theorem dX8_clash_80 : decode cX8_clash 80 = .ok (.goto (-39), 3) := dk_167 255 217 (dk_at dksX8_clash_3 12 rfl rfl)
theorem dX8_clash_83 : decode cX8_clash 83 = .ok (.iload_n 2, 1) := dk_28 (dk_at dksX8_clash_3 15 rfl rfl)
theorem dX8_clash_84 : decode cX8_clash 84 = .ok (.ireturn, 1) := dk_172 (dk_at dksX8_clash_3 16 rfl rfl)
abbrev cX8_queue : ByteArray := prog_21_method_109_code
def yX8_queue : MethodName := ⟨RX8, "queue", "(I)I"⟩
def dkwX8_queue_7 : List UInt8 := [167, 0, 4, 2, 172]
abbrev dktX8_queue_7 : List UInt8 := dkwX8_queue_7 ++ []
def dkwX8_queue_6 : List UInt8 := [4, 21, 7, 120, 128, 62, 21, 7, 54, 4, 132, 5, 1, 167, 255, 126, 27, 2, 160, 0, 8, 21, 6]
abbrev dktX8_queue_6 : List UInt8 := dkwX8_queue_6 ++ dktX8_queue_7
def dkwX8_queue_5 : List UInt8 := [132, 9, 1, 167, 255, 176, 29, 154, 0, 7, 21, 8, 54, 6, 21, 5, 27, 160, 0, 6, 21, 7, 172, 29]
abbrev dktX8_queue_5 : List UInt8 := dkwX8_queue_5 ++ dktX8_queue_6
def dkwX8_queue_4 : List UInt8 := [182, 1, 104, 96, 54, 10, 21, 10, 21, 8, 161, 0, 6, 167, 0, 11, 21, 10, 54, 8, 21, 9, 54, 7]
abbrev dktX8_queue_4 : List UInt8 := dkwX8_queue_4 ++ dktX8_queue_5
def dkwX8_queue_3 : List UInt8 := [21, 9, 182, 1, 101, 28, 29, 2, 130, 126, 184, 0, 242, 104, 42, 29, 4, 21, 9, 120, 128, 21, 9]
abbrev dktX8_queue_3 : List UInt8 := dkwX8_queue_3 ++ dktX8_queue_4
def dkwX8_queue_2 : List UInt8 := [6, 46, 162, 0, 75, 28, 29, 2, 130, 126, 21, 9, 184, 0, 107, 154, 0, 6, 167, 0, 53, 42, 21, 4]
abbrev dktX8_queue_2 : List UInt8 := dkwX8_queue_2 ++ dktX8_queue_3
def dkwX8_queue_1 : List UInt8 := [54, 6, 29, 28, 159, 0, 131, 2, 54, 7, 19, 1, 100, 54, 8, 3, 54, 9, 21, 9, 42, 180, 0, 7]
abbrev dktX8_queue_1 : List UInt8 := dkwX8_queue_1 ++ dktX8_queue_2
def dkwX8_queue_0 : List UInt8 := [42, 3, 181, 0, 50, 42, 182, 1, 47, 61, 42, 28, 182, 1, 107, 3, 62, 2, 54, 4, 3, 54, 5, 3]
abbrev dktX8_queue_0 : List UInt8 := dkwX8_queue_0 ++ dktX8_queue_1
theorem dksX8_queue_0 : cX8_queue.data.toList.drop 0 = dktX8_queue_0 := by decide +kernel
theorem dksX8_queue_1 : cX8_queue.data.toList.drop 24 = dktX8_queue_1 := dk_seg dksX8_queue_0 24 rfl rfl
theorem dksX8_queue_2 : cX8_queue.data.toList.drop 48 = dktX8_queue_2 := dk_seg dksX8_queue_1 24 rfl rfl
theorem dksX8_queue_3 : cX8_queue.data.toList.drop 72 = dktX8_queue_3 := dk_seg dksX8_queue_2 24 rfl rfl
theorem dksX8_queue_4 : cX8_queue.data.toList.drop 95 = dktX8_queue_4 := dk_seg dksX8_queue_3 23 rfl rfl
theorem dksX8_queue_5 : cX8_queue.data.toList.drop 119 = dktX8_queue_5 := dk_seg dksX8_queue_4 24 rfl rfl
theorem dksX8_queue_6 : cX8_queue.data.toList.drop 143 = dktX8_queue_6 := dk_seg dksX8_queue_5 24 rfl rfl
theorem dksX8_queue_7 : cX8_queue.data.toList.drop 166 = dktX8_queue_7 := dk_seg dksX8_queue_6 23 rfl rfl
theorem dX8_queue_0 : decode cX8_queue 0 = .ok (.aload_n 0, 1) := dk_42 (dk_at dksX8_queue_0 0 rfl rfl)
theorem dX8_queue_1 : decode cX8_queue 1 = .ok (.iconst 0, 1) := dk_3 (dk_at dksX8_queue_0 1 rfl rfl)
theorem dX8_queue_2 : decode cX8_queue 2 = .ok (.putfield 50, 3) := dk_181 0 50 (dk_at dksX8_queue_0 2 rfl rfl)
theorem dX8_queue_5 : decode cX8_queue 5 = .ok (.aload_n 0, 1) := dk_42 (dk_at dksX8_queue_0 5 rfl rfl)
theorem dX8_queue_6 : decode cX8_queue 6 = .ok (.invokevirtual 303, 3) := dk_182 1 47 (dk_at dksX8_queue_0 6 rfl rfl)
theorem dX8_queue_9 : decode cX8_queue 9 = .ok (.istore_n 2, 1) := dk_61 (dk_at dksX8_queue_0 9 rfl rfl)
theorem dX8_queue_10 : decode cX8_queue 10 = .ok (.aload_n 0, 1) := dk_42 (dk_at dksX8_queue_0 10 rfl rfl)
theorem dX8_queue_11 : decode cX8_queue 11 = .ok (.iload_n 2, 1) := dk_28 (dk_at dksX8_queue_0 11 rfl rfl)
theorem dX8_queue_12 : decode cX8_queue 12 = .ok (.invokevirtual 363, 3) := dk_182 1 107 (dk_at dksX8_queue_0 12 rfl rfl)
theorem dX8_queue_15 : decode cX8_queue 15 = .ok (.iconst 0, 1) := dk_3 (dk_at dksX8_queue_0 15 rfl rfl)
theorem dX8_queue_16 : decode cX8_queue 16 = .ok (.istore_n 3, 1) := dk_62 (dk_at dksX8_queue_0 16 rfl rfl)
theorem dX8_queue_17 : decode cX8_queue 17 = .ok (.iconst (-1), 1) := dk_2 (dk_at dksX8_queue_0 17 rfl rfl)
theorem dX8_queue_18 : decode cX8_queue 18 = .ok (.istore 4, 2) := dk_54 4 (dk_at dksX8_queue_0 18 rfl rfl)
theorem dX8_queue_20 : decode cX8_queue 20 = .ok (.iconst 0, 1) := dk_3 (dk_at dksX8_queue_0 20 rfl rfl)
theorem dX8_queue_21 : decode cX8_queue 21 = .ok (.istore 5, 2) := dk_54 5 (dk_at dksX8_queue_0 21 rfl rfl)
theorem dX8_queue_23 : decode cX8_queue 23 = .ok (.iconst 0, 1) := dk_3 (dk_at dksX8_queue_0 23 rfl rfl)
theorem dX8_queue_24 : decode cX8_queue 24 = .ok (.istore 6, 2) := dk_54 6 (dk_at dksX8_queue_1 0 rfl rfl)
theorem dX8_queue_26 : decode cX8_queue 26 = .ok (.iload_n 3, 1) := dk_29 (dk_at dksX8_queue_1 2 rfl rfl)
theorem dX8_queue_27 : decode cX8_queue 27 = .ok (.iload_n 2, 1) := dk_28 (dk_at dksX8_queue_1 3 rfl rfl)
theorem dX8_queue_28 : decode cX8_queue 28 = .ok (.if_icmp .eq 131, 3) := dk_159 0 131 (dk_at dksX8_queue_1 4 rfl rfl)
theorem dX8_queue_31 : decode cX8_queue 31 = .ok (.iconst (-1), 1) := dk_2 (dk_at dksX8_queue_1 7 rfl rfl)
theorem dX8_queue_32 : decode cX8_queue 32 = .ok (.istore 7, 2) := dk_54 7 (dk_at dksX8_queue_1 8 rfl rfl)
theorem dX8_queue_34 : decode cX8_queue 34 = .ok (.ldc_w 356, 3) := dk_19 1 100 (dk_at dksX8_queue_1 10 rfl rfl)
theorem dX8_queue_37 : decode cX8_queue 37 = .ok (.istore 8, 2) := dk_54 8 (dk_at dksX8_queue_1 13 rfl rfl)
theorem dX8_queue_39 : decode cX8_queue 39 = .ok (.iconst 0, 1) := dk_3 (dk_at dksX8_queue_1 15 rfl rfl)
theorem dX8_queue_40 : decode cX8_queue 40 = .ok (.istore 9, 2) := dk_54 9 (dk_at dksX8_queue_1 16 rfl rfl)
theorem dX8_queue_42 : decode cX8_queue 42 = .ok (.iload 9, 2) := dk_21 9 (dk_at dksX8_queue_1 18 rfl rfl)
theorem dX8_queue_44 : decode cX8_queue 44 = .ok (.aload_n 0, 1) := dk_42 (dk_at dksX8_queue_1 20 rfl rfl)
theorem dX8_queue_45 : decode cX8_queue 45 = .ok (.getfield 7, 3) := dk_180 0 7 (dk_at dksX8_queue_1 21 rfl rfl)
theorem dX8_queue_48 : decode cX8_queue 48 = .ok (.iconst 3, 1) := dk_6 (dk_at dksX8_queue_2 0 rfl rfl)
theorem dX8_queue_49 : decode cX8_queue 49 = .ok (.iaload, 1) := dk_46 (dk_at dksX8_queue_2 1 rfl rfl)
theorem dX8_queue_50 : decode cX8_queue 50 = .ok (.if_icmp .ge 75, 3) := dk_162 0 75 (dk_at dksX8_queue_2 2 rfl rfl)
theorem dX8_queue_53 : decode cX8_queue 53 = .ok (.iload_n 2, 1) := dk_28 (dk_at dksX8_queue_2 5 rfl rfl)
theorem dX8_queue_54 : decode cX8_queue 54 = .ok (.iload_n 3, 1) := dk_29 (dk_at dksX8_queue_2 6 rfl rfl)
theorem dX8_queue_55 : decode cX8_queue 55 = .ok (.iconst (-1), 1) := dk_2 (dk_at dksX8_queue_2 7 rfl rfl)
theorem dX8_queue_56 : decode cX8_queue 56 = .ok (.ixor, 1) := dk_130 (dk_at dksX8_queue_2 8 rfl rfl)
theorem dX8_queue_57 : decode cX8_queue 57 = .ok (.iand, 1) := dk_126 (dk_at dksX8_queue_2 9 rfl rfl)
theorem dX8_queue_58 : decode cX8_queue 58 = .ok (.iload 9, 2) := dk_21 9 (dk_at dksX8_queue_2 10 rfl rfl)
theorem dX8_queue_60 : decode cX8_queue 60 = .ok (.invokestatic 107, 3) := dk_184 0 107 (dk_at dksX8_queue_2 12 rfl rfl)
theorem dX8_queue_63 : decode cX8_queue 63 = .ok (.ifCond .ne 6, 3) := dk_154 0 6 (dk_at dksX8_queue_2 15 rfl rfl)
theorem dX8_queue_66 : decode cX8_queue 66 = .ok (.goto 53, 3) := dk_167 0 53 (dk_at dksX8_queue_2 18 rfl rfl)
theorem dX8_queue_69 : decode cX8_queue 69 = .ok (.aload_n 0, 1) := dk_42 (dk_at dksX8_queue_2 21 rfl rfl)
theorem dX8_queue_70 : decode cX8_queue 70 = .ok (.iload 4, 2) := dk_21 4 (dk_at dksX8_queue_2 22 rfl rfl)
theorem dX8_queue_72 : decode cX8_queue 72 = .ok (.iload 9, 2) := dk_21 9 (dk_at dksX8_queue_3 0 rfl rfl)
theorem dX8_queue_74 : decode cX8_queue 74 = .ok (.invokevirtual 357, 3) := dk_182 1 101 (dk_at dksX8_queue_3 2 rfl rfl)
theorem dX8_queue_77 : decode cX8_queue 77 = .ok (.iload_n 2, 1) := dk_28 (dk_at dksX8_queue_3 5 rfl rfl)
theorem dX8_queue_78 : decode cX8_queue 78 = .ok (.iload_n 3, 1) := dk_29 (dk_at dksX8_queue_3 6 rfl rfl)
theorem dX8_queue_79 : decode cX8_queue 79 = .ok (.iconst (-1), 1) := dk_2 (dk_at dksX8_queue_3 7 rfl rfl)
theorem dX8_queue_80 : decode cX8_queue 80 = .ok (.ixor, 1) := dk_130 (dk_at dksX8_queue_3 8 rfl rfl)
theorem dX8_queue_81 : decode cX8_queue 81 = .ok (.iand, 1) := dk_126 (dk_at dksX8_queue_3 9 rfl rfl)
theorem dX8_queue_82 : decode cX8_queue 82 = .ok (.invokestatic 242, 3) := dk_184 0 242 (dk_at dksX8_queue_3 10 rfl rfl)
theorem dX8_queue_85 : decode cX8_queue 85 = .ok (.imul, 1) := dk_104 (dk_at dksX8_queue_3 13 rfl rfl)
theorem dX8_queue_86 : decode cX8_queue 86 = .ok (.aload_n 0, 1) := dk_42 (dk_at dksX8_queue_3 14 rfl rfl)
theorem dX8_queue_87 : decode cX8_queue 87 = .ok (.iload_n 3, 1) := dk_29 (dk_at dksX8_queue_3 15 rfl rfl)
theorem dX8_queue_88 : decode cX8_queue 88 = .ok (.iconst 1, 1) := dk_4 (dk_at dksX8_queue_3 16 rfl rfl)
theorem dX8_queue_89 : decode cX8_queue 89 = .ok (.iload 9, 2) := dk_21 9 (dk_at dksX8_queue_3 17 rfl rfl)
theorem dX8_queue_91 : decode cX8_queue 91 = .ok (.ishl, 1) := dk_120 (dk_at dksX8_queue_3 19 rfl rfl)
theorem dX8_queue_92 : decode cX8_queue 92 = .ok (.ior, 1) := dk_128 (dk_at dksX8_queue_3 20 rfl rfl)
theorem dX8_queue_93 : decode cX8_queue 93 = .ok (.iload 9, 2) := dk_21 9 (dk_at dksX8_queue_3 21 rfl rfl)
theorem dX8_queue_95 : decode cX8_queue 95 = .ok (.invokevirtual 360, 3) := dk_182 1 104 (dk_at dksX8_queue_4 0 rfl rfl)
theorem dX8_queue_98 : decode cX8_queue 98 = .ok (.iadd, 1) := dk_96 (dk_at dksX8_queue_4 3 rfl rfl)
theorem dX8_queue_99 : decode cX8_queue 99 = .ok (.istore 10, 2) := dk_54 10 (dk_at dksX8_queue_4 4 rfl rfl)
theorem dX8_queue_101 : decode cX8_queue 101 = .ok (.iload 10, 2) := dk_21 10 (dk_at dksX8_queue_4 6 rfl rfl)
theorem dX8_queue_103 : decode cX8_queue 103 = .ok (.iload 8, 2) := dk_21 8 (dk_at dksX8_queue_4 8 rfl rfl)
theorem dX8_queue_105 : decode cX8_queue 105 = .ok (.if_icmp .lt 6, 3) := dk_161 0 6 (dk_at dksX8_queue_4 10 rfl rfl)
theorem dX8_queue_108 : decode cX8_queue 108 = .ok (.goto 11, 3) := dk_167 0 11 (dk_at dksX8_queue_4 13 rfl rfl)
theorem dX8_queue_111 : decode cX8_queue 111 = .ok (.iload 10, 2) := dk_21 10 (dk_at dksX8_queue_4 16 rfl rfl)
theorem dX8_queue_113 : decode cX8_queue 113 = .ok (.istore 8, 2) := dk_54 8 (dk_at dksX8_queue_4 18 rfl rfl)
theorem dX8_queue_115 : decode cX8_queue 115 = .ok (.iload 9, 2) := dk_21 9 (dk_at dksX8_queue_4 20 rfl rfl)
theorem dX8_queue_117 : decode cX8_queue 117 = .ok (.istore 7, 2) := dk_54 7 (dk_at dksX8_queue_4 22 rfl rfl)
theorem dX8_queue_119 : decode cX8_queue 119 = .ok (.iinc 9 1, 3) := dk_132 9 1 (dk_at dksX8_queue_5 0 rfl rfl)
theorem dX8_queue_122 : decode cX8_queue 122 = .ok (.goto (-80), 3) := dk_167 255 176 (dk_at dksX8_queue_5 3 rfl rfl)
theorem dX8_queue_125 : decode cX8_queue 125 = .ok (.iload_n 3, 1) := dk_29 (dk_at dksX8_queue_5 6 rfl rfl)
theorem dX8_queue_126 : decode cX8_queue 126 = .ok (.ifCond .ne 7, 3) := dk_154 0 7 (dk_at dksX8_queue_5 7 rfl rfl)
theorem dX8_queue_129 : decode cX8_queue 129 = .ok (.iload 8, 2) := dk_21 8 (dk_at dksX8_queue_5 10 rfl rfl)
theorem dX8_queue_131 : decode cX8_queue 131 = .ok (.istore 6, 2) := dk_54 6 (dk_at dksX8_queue_5 12 rfl rfl)
theorem dX8_queue_133 : decode cX8_queue 133 = .ok (.iload 5, 2) := dk_21 5 (dk_at dksX8_queue_5 14 rfl rfl)
theorem dX8_queue_135 : decode cX8_queue 135 = .ok (.iload_n 1, 1) := dk_27 (dk_at dksX8_queue_5 16 rfl rfl)
theorem dX8_queue_136 : decode cX8_queue 136 = .ok (.if_icmp .ne 6, 3) := dk_160 0 6 (dk_at dksX8_queue_5 17 rfl rfl)
theorem dX8_queue_139 : decode cX8_queue 139 = .ok (.iload 7, 2) := dk_21 7 (dk_at dksX8_queue_5 20 rfl rfl)
theorem dX8_queue_141 : decode cX8_queue 141 = .ok (.ireturn, 1) := dk_172 (dk_at dksX8_queue_5 22 rfl rfl)
theorem dX8_queue_142 : decode cX8_queue 142 = .ok (.iload_n 3, 1) := dk_29 (dk_at dksX8_queue_5 23 rfl rfl)
theorem dX8_queue_143 : decode cX8_queue 143 = .ok (.iconst 1, 1) := dk_4 (dk_at dksX8_queue_6 0 rfl rfl)
theorem dX8_queue_144 : decode cX8_queue 144 = .ok (.iload 7, 2) := dk_21 7 (dk_at dksX8_queue_6 1 rfl rfl)
theorem dX8_queue_146 : decode cX8_queue 146 = .ok (.ishl, 1) := dk_120 (dk_at dksX8_queue_6 3 rfl rfl)
theorem dX8_queue_147 : decode cX8_queue 147 = .ok (.ior, 1) := dk_128 (dk_at dksX8_queue_6 4 rfl rfl)
theorem dX8_queue_148 : decode cX8_queue 148 = .ok (.istore_n 3, 1) := dk_62 (dk_at dksX8_queue_6 5 rfl rfl)
theorem dX8_queue_149 : decode cX8_queue 149 = .ok (.iload 7, 2) := dk_21 7 (dk_at dksX8_queue_6 6 rfl rfl)
theorem dX8_queue_151 : decode cX8_queue 151 = .ok (.istore 4, 2) := dk_54 4 (dk_at dksX8_queue_6 8 rfl rfl)
theorem dX8_queue_153 : decode cX8_queue 153 = .ok (.iinc 5 1, 3) := dk_132 5 1 (dk_at dksX8_queue_6 10 rfl rfl)
theorem dX8_queue_156 : decode cX8_queue 156 = .ok (.goto (-130), 3) := dk_167 255 126 (dk_at dksX8_queue_6 13 rfl rfl)
theorem dX8_queue_159 : decode cX8_queue 159 = .ok (.iload_n 1, 1) := dk_27 (dk_at dksX8_queue_6 16 rfl rfl)
theorem dX8_queue_160 : decode cX8_queue 160 = .ok (.iconst (-1), 1) := dk_2 (dk_at dksX8_queue_6 17 rfl rfl)
theorem dX8_queue_161 : decode cX8_queue 161 = .ok (.if_icmp .ne 8, 3) := dk_160 0 8 (dk_at dksX8_queue_6 18 rfl rfl)
theorem dX8_queue_164 : decode cX8_queue 164 = .ok (.iload 6, 2) := dk_21 6 (dk_at dksX8_queue_6 21 rfl rfl)
theorem dX8_queue_166 : decode cX8_queue 166 = .ok (.goto 4, 3) := dk_167 0 4 (dk_at dksX8_queue_7 0 rfl rfl)
theorem dX8_queue_169 : decode cX8_queue 169 = .ok (.iconst (-1), 1) := dk_2 (dk_at dksX8_queue_7 3 rfl rfl)
theorem dX8_queue_170 : decode cX8_queue 170 = .ok (.ireturn, 1) := dk_172 (dk_at dksX8_queue_7 4 rfl rfl)
abbrev cX8_serves : ByteArray := prog_21_method_108_code
def yX8_serves : MethodName := ⟨RX8, "serves", "(I)V"⟩
def dkwX8_serves_5 : List UInt8 := [104, 29, 96, 21, 4, 79, 132, 3, 1, 167, 255, 147, 132, 2, 255, 167, 255, 124, 177]
abbrev dktX8_serves_5 : List UInt8 := dkwX8_serves_5 ++ []
def dkwX8_serves_4 : List UInt8 := [21, 5, 182, 1, 104, 96, 184, 1, 16, 54, 4, 132, 5, 1, 167, 255, 193, 42, 180, 0, 44, 16, 10, 28]
abbrev dktX8_serves_4 : List UInt8 := dkwX8_serves_4 ++ dktX8_serves_5
def dkwX8_serves_3 : List UInt8 := [42, 29, 21, 5, 182, 1, 101, 27, 28, 2, 130, 126, 184, 0, 242, 104, 42, 28, 4, 21, 5, 120, 128]
abbrev dktX8_serves_3 : List UInt8 := dkwX8_serves_3 ++ dktX8_serves_4
def dkwX8_serves_2 : List UInt8 := [42, 180, 0, 7, 6, 46, 162, 0, 58, 27, 28, 2, 130, 126, 21, 5, 184, 0, 107, 153, 0, 39, 21, 4]
abbrev dktX8_serves_2 : List UInt8 := dkwX8_serves_2 ++ dktX8_serves_3
def dkwX8_serves_1 : List UInt8 := [6, 46, 162, 0, 105, 28, 27, 160, 0, 7, 3, 167, 0, 6, 19, 1, 100, 54, 4, 3, 54, 5, 21, 5]
abbrev dktX8_serves_1 : List UInt8 := dkwX8_serves_1 ++ dktX8_serves_2
def dkwX8_serves_0 : List UInt8 := [27, 61, 28, 158, 0, 134, 28, 27, 2, 130, 126, 153, 0, 6, 167, 0, 117, 3, 62, 29, 42, 180, 0, 7]
abbrev dktX8_serves_0 : List UInt8 := dkwX8_serves_0 ++ dktX8_serves_1
theorem dksX8_serves_0 : cX8_serves.data.toList.drop 0 = dktX8_serves_0 := by decide +kernel
theorem dksX8_serves_1 : cX8_serves.data.toList.drop 24 = dktX8_serves_1 := dk_seg dksX8_serves_0 24 rfl rfl
theorem dksX8_serves_2 : cX8_serves.data.toList.drop 48 = dktX8_serves_2 := dk_seg dksX8_serves_1 24 rfl rfl
theorem dksX8_serves_3 : cX8_serves.data.toList.drop 72 = dktX8_serves_3 := dk_seg dksX8_serves_2 24 rfl rfl
theorem dksX8_serves_4 : cX8_serves.data.toList.drop 95 = dktX8_serves_4 := dk_seg dksX8_serves_3 23 rfl rfl
theorem dksX8_serves_5 : cX8_serves.data.toList.drop 119 = dktX8_serves_5 := dk_seg dksX8_serves_4 24 rfl rfl
theorem dX8_serves_0 : decode cX8_serves 0 = .ok (.iload_n 1, 1) := dk_27 (dk_at dksX8_serves_0 0 rfl rfl)
theorem dX8_serves_1 : decode cX8_serves 1 = .ok (.istore_n 2, 1) := dk_61 (dk_at dksX8_serves_0 1 rfl rfl)
theorem dX8_serves_2 : decode cX8_serves 2 = .ok (.iload_n 2, 1) := dk_28 (dk_at dksX8_serves_0 2 rfl rfl)
theorem dX8_serves_3 : decode cX8_serves 3 = .ok (.ifCond .le 134, 3) := dk_158 0 134 (dk_at dksX8_serves_0 3 rfl rfl)
theorem dX8_serves_6 : decode cX8_serves 6 = .ok (.iload_n 2, 1) := dk_28 (dk_at dksX8_serves_0 6 rfl rfl)
theorem dX8_serves_7 : decode cX8_serves 7 = .ok (.iload_n 1, 1) := dk_27 (dk_at dksX8_serves_0 7 rfl rfl)
theorem dX8_serves_8 : decode cX8_serves 8 = .ok (.iconst (-1), 1) := dk_2 (dk_at dksX8_serves_0 8 rfl rfl)
theorem dX8_serves_9 : decode cX8_serves 9 = .ok (.ixor, 1) := dk_130 (dk_at dksX8_serves_0 9 rfl rfl)
theorem dX8_serves_10 : decode cX8_serves 10 = .ok (.iand, 1) := dk_126 (dk_at dksX8_serves_0 10 rfl rfl)
theorem dX8_serves_11 : decode cX8_serves 11 = .ok (.ifCond .eq 6, 3) := dk_153 0 6 (dk_at dksX8_serves_0 11 rfl rfl)
theorem dX8_serves_14 : decode cX8_serves 14 = .ok (.goto 117, 3) := dk_167 0 117 (dk_at dksX8_serves_0 14 rfl rfl)
theorem dX8_serves_17 : decode cX8_serves 17 = .ok (.iconst 0, 1) := dk_3 (dk_at dksX8_serves_0 17 rfl rfl)
theorem dX8_serves_18 : decode cX8_serves 18 = .ok (.istore_n 3, 1) := dk_62 (dk_at dksX8_serves_0 18 rfl rfl)
theorem dX8_serves_19 : decode cX8_serves 19 = .ok (.iload_n 3, 1) := dk_29 (dk_at dksX8_serves_0 19 rfl rfl)
theorem dX8_serves_20 : decode cX8_serves 20 = .ok (.aload_n 0, 1) := dk_42 (dk_at dksX8_serves_0 20 rfl rfl)
theorem dX8_serves_21 : decode cX8_serves 21 = .ok (.getfield 7, 3) := dk_180 0 7 (dk_at dksX8_serves_0 21 rfl rfl)
theorem dX8_serves_24 : decode cX8_serves 24 = .ok (.iconst 3, 1) := dk_6 (dk_at dksX8_serves_1 0 rfl rfl)
theorem dX8_serves_25 : decode cX8_serves 25 = .ok (.iaload, 1) := dk_46 (dk_at dksX8_serves_1 1 rfl rfl)
theorem dX8_serves_26 : decode cX8_serves 26 = .ok (.if_icmp .ge 105, 3) := dk_162 0 105 (dk_at dksX8_serves_1 2 rfl rfl)
theorem dX8_serves_29 : decode cX8_serves 29 = .ok (.iload_n 2, 1) := dk_28 (dk_at dksX8_serves_1 5 rfl rfl)
theorem dX8_serves_30 : decode cX8_serves 30 = .ok (.iload_n 1, 1) := dk_27 (dk_at dksX8_serves_1 6 rfl rfl)
theorem dX8_serves_31 : decode cX8_serves 31 = .ok (.if_icmp .ne 7, 3) := dk_160 0 7 (dk_at dksX8_serves_1 7 rfl rfl)
theorem dX8_serves_34 : decode cX8_serves 34 = .ok (.iconst 0, 1) := dk_3 (dk_at dksX8_serves_1 10 rfl rfl)
theorem dX8_serves_35 : decode cX8_serves 35 = .ok (.goto 6, 3) := dk_167 0 6 (dk_at dksX8_serves_1 11 rfl rfl)
theorem dX8_serves_38 : decode cX8_serves 38 = .ok (.ldc_w 356, 3) := dk_19 1 100 (dk_at dksX8_serves_1 14 rfl rfl)
theorem dX8_serves_41 : decode cX8_serves 41 = .ok (.istore 4, 2) := dk_54 4 (dk_at dksX8_serves_1 17 rfl rfl)
theorem dX8_serves_43 : decode cX8_serves 43 = .ok (.iconst 0, 1) := dk_3 (dk_at dksX8_serves_1 19 rfl rfl)
theorem dX8_serves_44 : decode cX8_serves 44 = .ok (.istore 5, 2) := dk_54 5 (dk_at dksX8_serves_1 20 rfl rfl)
theorem dX8_serves_46 : decode cX8_serves 46 = .ok (.iload 5, 2) := dk_21 5 (dk_at dksX8_serves_1 22 rfl rfl)
theorem dX8_serves_48 : decode cX8_serves 48 = .ok (.aload_n 0, 1) := dk_42 (dk_at dksX8_serves_2 0 rfl rfl)
theorem dX8_serves_49 : decode cX8_serves 49 = .ok (.getfield 7, 3) := dk_180 0 7 (dk_at dksX8_serves_2 1 rfl rfl)
theorem dX8_serves_52 : decode cX8_serves 52 = .ok (.iconst 3, 1) := dk_6 (dk_at dksX8_serves_2 4 rfl rfl)
theorem dX8_serves_53 : decode cX8_serves 53 = .ok (.iaload, 1) := dk_46 (dk_at dksX8_serves_2 5 rfl rfl)
theorem dX8_serves_54 : decode cX8_serves 54 = .ok (.if_icmp .ge 58, 3) := dk_162 0 58 (dk_at dksX8_serves_2 6 rfl rfl)
theorem dX8_serves_57 : decode cX8_serves 57 = .ok (.iload_n 1, 1) := dk_27 (dk_at dksX8_serves_2 9 rfl rfl)
theorem dX8_serves_58 : decode cX8_serves 58 = .ok (.iload_n 2, 1) := dk_28 (dk_at dksX8_serves_2 10 rfl rfl)
theorem dX8_serves_59 : decode cX8_serves 59 = .ok (.iconst (-1), 1) := dk_2 (dk_at dksX8_serves_2 11 rfl rfl)
theorem dX8_serves_60 : decode cX8_serves 60 = .ok (.ixor, 1) := dk_130 (dk_at dksX8_serves_2 12 rfl rfl)
theorem dX8_serves_61 : decode cX8_serves 61 = .ok (.iand, 1) := dk_126 (dk_at dksX8_serves_2 13 rfl rfl)
theorem dX8_serves_62 : decode cX8_serves 62 = .ok (.iload 5, 2) := dk_21 5 (dk_at dksX8_serves_2 14 rfl rfl)
theorem dX8_serves_64 : decode cX8_serves 64 = .ok (.invokestatic 107, 3) := dk_184 0 107 (dk_at dksX8_serves_2 16 rfl rfl)
theorem dX8_serves_67 : decode cX8_serves 67 = .ok (.ifCond .eq 39, 3) := dk_153 0 39 (dk_at dksX8_serves_2 19 rfl rfl)
theorem dX8_serves_70 : decode cX8_serves 70 = .ok (.iload 4, 2) := dk_21 4 (dk_at dksX8_serves_2 22 rfl rfl)
theorem dX8_serves_72 : decode cX8_serves 72 = .ok (.aload_n 0, 1) := dk_42 (dk_at dksX8_serves_3 0 rfl rfl)
theorem dX8_serves_73 : decode cX8_serves 73 = .ok (.iload_n 3, 1) := dk_29 (dk_at dksX8_serves_3 1 rfl rfl)
theorem dX8_serves_74 : decode cX8_serves 74 = .ok (.iload 5, 2) := dk_21 5 (dk_at dksX8_serves_3 2 rfl rfl)
theorem dX8_serves_76 : decode cX8_serves 76 = .ok (.invokevirtual 357, 3) := dk_182 1 101 (dk_at dksX8_serves_3 4 rfl rfl)
theorem dX8_serves_79 : decode cX8_serves 79 = .ok (.iload_n 1, 1) := dk_27 (dk_at dksX8_serves_3 7 rfl rfl)
theorem dX8_serves_80 : decode cX8_serves 80 = .ok (.iload_n 2, 1) := dk_28 (dk_at dksX8_serves_3 8 rfl rfl)
theorem dX8_serves_81 : decode cX8_serves 81 = .ok (.iconst (-1), 1) := dk_2 (dk_at dksX8_serves_3 9 rfl rfl)
theorem dX8_serves_82 : decode cX8_serves 82 = .ok (.ixor, 1) := dk_130 (dk_at dksX8_serves_3 10 rfl rfl)
theorem dX8_serves_83 : decode cX8_serves 83 = .ok (.iand, 1) := dk_126 (dk_at dksX8_serves_3 11 rfl rfl)
theorem dX8_serves_84 : decode cX8_serves 84 = .ok (.invokestatic 242, 3) := dk_184 0 242 (dk_at dksX8_serves_3 12 rfl rfl)
theorem dX8_serves_87 : decode cX8_serves 87 = .ok (.imul, 1) := dk_104 (dk_at dksX8_serves_3 15 rfl rfl)
theorem dX8_serves_88 : decode cX8_serves 88 = .ok (.aload_n 0, 1) := dk_42 (dk_at dksX8_serves_3 16 rfl rfl)
theorem dX8_serves_89 : decode cX8_serves 89 = .ok (.iload_n 2, 1) := dk_28 (dk_at dksX8_serves_3 17 rfl rfl)
theorem dX8_serves_90 : decode cX8_serves 90 = .ok (.iconst 1, 1) := dk_4 (dk_at dksX8_serves_3 18 rfl rfl)
theorem dX8_serves_91 : decode cX8_serves 91 = .ok (.iload 5, 2) := dk_21 5 (dk_at dksX8_serves_3 19 rfl rfl)
theorem dX8_serves_93 : decode cX8_serves 93 = .ok (.ishl, 1) := dk_120 (dk_at dksX8_serves_3 21 rfl rfl)
theorem dX8_serves_94 : decode cX8_serves 94 = .ok (.ior, 1) := dk_128 (dk_at dksX8_serves_3 22 rfl rfl)
theorem dX8_serves_95 : decode cX8_serves 95 = .ok (.iload 5, 2) := dk_21 5 (dk_at dksX8_serves_4 0 rfl rfl)
theorem dX8_serves_97 : decode cX8_serves 97 = .ok (.invokevirtual 360, 3) := dk_182 1 104 (dk_at dksX8_serves_4 2 rfl rfl)
theorem dX8_serves_100 : decode cX8_serves 100 = .ok (.iadd, 1) := dk_96 (dk_at dksX8_serves_4 5 rfl rfl)
theorem dX8_serves_101 : decode cX8_serves 101 = .ok (.invokestatic 272, 3) := dk_184 1 16 (dk_at dksX8_serves_4 6 rfl rfl)
theorem dX8_serves_104 : decode cX8_serves 104 = .ok (.istore 4, 2) := dk_54 4 (dk_at dksX8_serves_4 9 rfl rfl)
theorem dX8_serves_106 : decode cX8_serves 106 = .ok (.iinc 5 1, 3) := dk_132 5 1 (dk_at dksX8_serves_4 11 rfl rfl)
theorem dX8_serves_109 : decode cX8_serves 109 = .ok (.goto (-63), 3) := dk_167 255 193 (dk_at dksX8_serves_4 14 rfl rfl)
theorem dX8_serves_112 : decode cX8_serves 112 = .ok (.aload_n 0, 1) := dk_42 (dk_at dksX8_serves_4 17 rfl rfl)
theorem dX8_serves_113 : decode cX8_serves 113 = .ok (.getfield 44, 3) := dk_180 0 44 (dk_at dksX8_serves_4 18 rfl rfl)
theorem dX8_serves_116 : decode cX8_serves 116 = .ok (.bipush 10, 2) := dk_16 10 (dk_at dksX8_serves_4 21 rfl rfl)
theorem dX8_serves_118 : decode cX8_serves 118 = .ok (.iload_n 2, 1) := dk_28 (dk_at dksX8_serves_4 23 rfl rfl)
theorem dX8_serves_119 : decode cX8_serves 119 = .ok (.imul, 1) := dk_104 (dk_at dksX8_serves_5 0 rfl rfl)
theorem dX8_serves_120 : decode cX8_serves 120 = .ok (.iload_n 3, 1) := dk_29 (dk_at dksX8_serves_5 1 rfl rfl)
theorem dX8_serves_121 : decode cX8_serves 121 = .ok (.iadd, 1) := dk_96 (dk_at dksX8_serves_5 2 rfl rfl)
theorem dX8_serves_122 : decode cX8_serves 122 = .ok (.iload 4, 2) := dk_21 4 (dk_at dksX8_serves_5 3 rfl rfl)
theorem dX8_serves_124 : decode cX8_serves 124 = .ok (.iastore, 1) := dk_79 (dk_at dksX8_serves_5 5 rfl rfl)
theorem dX8_serves_125 : decode cX8_serves 125 = .ok (.iinc 3 1, 3) := dk_132 3 1 (dk_at dksX8_serves_5 6 rfl rfl)
theorem dX8_serves_128 : decode cX8_serves 128 = .ok (.goto (-109), 3) := dk_167 255 147 (dk_at dksX8_serves_5 9 rfl rfl)
theorem dX8_serves_131 : decode cX8_serves 131 = .ok (.iinc 2 (-1), 3) := dk_132 2 255 (dk_at dksX8_serves_5 12 rfl rfl)
theorem dX8_serves_134 : decode cX8_serves 134 = .ok (.goto (-132), 3) := dk_167 255 124 (dk_at dksX8_serves_5 15 rfl rfl)
theorem dX8_serves_137 : decode cX8_serves 137 = .ok (.return_, 1) := dk_177 (dk_at dksX8_serves_5 18 rfl rfl)
abbrev cX8_step : ByteArray := prog_21_method_106_code
def yX8_step : MethodName := ⟨RX8, "step", "(II)I"⟩
def dkwX8_step_1 : List UInt8 := [54, 4, 21, 4, 156, 0, 9, 21, 4, 116, 167, 0, 5, 21, 4, 4, 96, 172]
abbrev dktX8_step_1 : List UInt8 := dkwX8_step_1 ++ []
def dkwX8_step_0 : List UInt8 := [27, 2, 160, 0, 7, 3, 167, 0, 9, 42, 27, 6, 182, 0, 57, 62, 42, 28, 6, 182, 0, 57, 29, 100]
abbrev dktX8_step_0 : List UInt8 := dkwX8_step_0 ++ dktX8_step_1
theorem dksX8_step_0 : cX8_step.data.toList.drop 0 = dktX8_step_0 := by decide +kernel
theorem dksX8_step_1 : cX8_step.data.toList.drop 24 = dktX8_step_1 := dk_seg dksX8_step_0 24 rfl rfl
theorem dX8_step_0 : decode cX8_step 0 = .ok (.iload_n 1, 1) := dk_27 (dk_at dksX8_step_0 0 rfl rfl)
theorem dX8_step_1 : decode cX8_step 1 = .ok (.iconst (-1), 1) := dk_2 (dk_at dksX8_step_0 1 rfl rfl)
theorem dX8_step_2 : decode cX8_step 2 = .ok (.if_icmp .ne 7, 3) := dk_160 0 7 (dk_at dksX8_step_0 2 rfl rfl)
theorem dX8_step_5 : decode cX8_step 5 = .ok (.iconst 0, 1) := dk_3 (dk_at dksX8_step_0 5 rfl rfl)
theorem dX8_step_6 : decode cX8_step 6 = .ok (.goto 9, 3) := dk_167 0 9 (dk_at dksX8_step_0 6 rfl rfl)
theorem dX8_step_9 : decode cX8_step 9 = .ok (.aload_n 0, 1) := dk_42 (dk_at dksX8_step_0 9 rfl rfl)
theorem dX8_step_10 : decode cX8_step 10 = .ok (.iload_n 1, 1) := dk_27 (dk_at dksX8_step_0 10 rfl rfl)
theorem dX8_step_11 : decode cX8_step 11 = .ok (.iconst 3, 1) := dk_6 (dk_at dksX8_step_0 11 rfl rfl)
theorem dX8_step_12 : decode cX8_step 12 = .ok (.invokevirtual 57, 3) := dk_182 0 57 (dk_at dksX8_step_0 12 rfl rfl)
theorem dX8_step_15 : decode cX8_step 15 = .ok (.istore_n 3, 1) := dk_62 (dk_at dksX8_step_0 15 rfl rfl)
theorem dX8_step_16 : decode cX8_step 16 = .ok (.aload_n 0, 1) := dk_42 (dk_at dksX8_step_0 16 rfl rfl)
theorem dX8_step_17 : decode cX8_step 17 = .ok (.iload_n 2, 1) := dk_28 (dk_at dksX8_step_0 17 rfl rfl)
theorem dX8_step_18 : decode cX8_step 18 = .ok (.iconst 3, 1) := dk_6 (dk_at dksX8_step_0 18 rfl rfl)
theorem dX8_step_19 : decode cX8_step 19 = .ok (.invokevirtual 57, 3) := dk_182 0 57 (dk_at dksX8_step_0 19 rfl rfl)
theorem dX8_step_22 : decode cX8_step 22 = .ok (.iload_n 3, 1) := dk_29 (dk_at dksX8_step_0 22 rfl rfl)
theorem dX8_step_23 : decode cX8_step 23 = .ok (.isub, 1) := dk_100 (dk_at dksX8_step_0 23 rfl rfl)
theorem dX8_step_24 : decode cX8_step 24 = .ok (.istore 4, 2) := dk_54 4 (dk_at dksX8_step_1 0 rfl rfl)
theorem dX8_step_26 : decode cX8_step 26 = .ok (.iload 4, 2) := dk_21 4 (dk_at dksX8_step_1 2 rfl rfl)
theorem dX8_step_28 : decode cX8_step 28 = .ok (.ifCond .ge 9, 3) := dk_156 0 9 (dk_at dksX8_step_1 4 rfl rfl)
theorem dX8_step_31 : decode cX8_step 31 = .ok (.iload 4, 2) := dk_21 4 (dk_at dksX8_step_1 7 rfl rfl)
theorem dX8_step_33 : decode cX8_step 33 = .ok (.ineg, 1) := dk_116 (dk_at dksX8_step_1 9 rfl rfl)
theorem dX8_step_34 : decode cX8_step 34 = .ok (.goto 5, 3) := dk_167 0 5 (dk_at dksX8_step_1 10 rfl rfl)
theorem dX8_step_37 : decode cX8_step 37 = .ok (.iload 4, 2) := dk_21 4 (dk_at dksX8_step_1 13 rfl rfl)
theorem dX8_step_39 : decode cX8_step 39 = .ok (.iconst 1, 1) := dk_4 (dk_at dksX8_step_1 15 rfl rfl)
theorem dX8_step_40 : decode cX8_step 40 = .ok (.iadd, 1) := dk_96 (dk_at dksX8_step_1 16 rfl rfl)
theorem dX8_step_41 : decode cX8_step 41 = .ok (.ireturn, 1) := dk_172 (dk_at dksX8_step_1 17 rfl rfl)
abbrev cX8_left : ByteArray := prog_21_method_107_code
def yX8_left : MethodName := ⟨RX8, "left", "(II)I"⟩
def dkwX8_left_0 : List UInt8 := [42, 180, 0, 44, 16, 10, 27, 104, 28, 96, 46, 172]
abbrev dktX8_left_0 : List UInt8 := dkwX8_left_0 ++ []
theorem dksX8_left_0 : cX8_left.data.toList.drop 0 = dktX8_left_0 := by decide +kernel
theorem dX8_left_0 : decode cX8_left 0 = .ok (.aload_n 0, 1) := dk_42 (dk_at dksX8_left_0 0 rfl rfl)
theorem dX8_left_1 : decode cX8_left 1 = .ok (.getfield 44, 3) := dk_180 0 44 (dk_at dksX8_left_0 1 rfl rfl)
theorem dX8_left_4 : decode cX8_left 4 = .ok (.bipush 10, 2) := dk_16 10 (dk_at dksX8_left_0 4 rfl rfl)
theorem dX8_left_6 : decode cX8_left 6 = .ok (.iload_n 1, 1) := dk_27 (dk_at dksX8_left_0 6 rfl rfl)
theorem dX8_left_7 : decode cX8_left 7 = .ok (.imul, 1) := dk_104 (dk_at dksX8_left_0 7 rfl rfl)
theorem dX8_left_8 : decode cX8_left 8 = .ok (.iload_n 2, 1) := dk_28 (dk_at dksX8_left_0 8 rfl rfl)
theorem dX8_left_9 : decode cX8_left 9 = .ok (.iadd, 1) := dk_96 (dk_at dksX8_left_0 9 rfl rfl)
theorem dX8_left_10 : decode cX8_left 10 = .ok (.iaload, 1) := dk_46 (dk_at dksX8_left_0 10 rfl rfl)
theorem dX8_left_11 : decode cX8_left 11 = .ok (.ireturn, 1) := dk_172 (dk_at dksX8_left_0 11 rfl rfl)
abbrev cX8_forged : ByteArray := prog_21_method_111_code
def yX8_forged : MethodName := ⟨RX8, "forged", "(I)I"⟩
def dkwX8_forged_6 : List UInt8 := [167, 255, 202, 29, 172]
abbrev dktX8_forged_6 : List UInt8 := dkwX8_forged_6 ++ []
def dkwX8_forged_5 : List UInt8 := [167, 0, 19, 27, 42, 21, 4, 182, 1, 110, 2, 130, 126, 154, 0, 6, 21, 4, 62, 132, 4, 1]
abbrev dktX8_forged_5 : List UInt8 := dkwX8_forged_5 ++ dktX8_forged_6
def dkwX8_forged_4 : List UInt8 := [2, 130, 126, 154, 0, 39, 29, 2, 159, 0, 18, 21, 4, 184, 0, 242, 29, 184, 0, 242, 161, 0, 6]
abbrev dktX8_forged_4 : List UInt8 := dkwX8_forged_4 ++ dktX8_forged_5
def dkwX8_forged_3 : List UInt8 := [46, 120, 128, 61, 132, 3, 1, 167, 255, 210, 2, 62, 3, 54, 4, 21, 4, 28, 163, 0, 54, 21, 4, 28]
abbrev dktX8_forged_3 : List UInt8 := dkwX8_forged_3 ++ dktX8_forged_4
def dkwX8_forged_2 : List UInt8 := [17, 1, 16, 29, 96, 46, 2, 160, 0, 7, 3, 167, 0, 15, 4, 42, 180, 0, 7, 17, 1, 16, 29, 96]
abbrev dktX8_forged_2 : List UInt8 := dkwX8_forged_2 ++ dktX8_forged_3
def dkwX8_forged_1 : List UInt8 := [158, 0, 5, 3, 172, 3, 61, 3, 62, 29, 42, 180, 0, 7, 7, 46, 162, 0, 42, 28, 42, 180, 0, 7]
abbrev dktX8_forged_1 : List UInt8 := dkwX8_forged_1 ++ dktX8_forged_2
def dkwX8_forged_0 : List UInt8 := [42, 27, 3, 17, 0, 255, 184, 0, 53, 154, 0, 7, 4, 167, 0, 4, 3, 181, 0, 50, 42, 180, 0, 50]
abbrev dktX8_forged_0 : List UInt8 := dkwX8_forged_0 ++ dktX8_forged_1
theorem dksX8_forged_0 : cX8_forged.data.toList.drop 0 = dktX8_forged_0 := by decide +kernel
theorem dksX8_forged_1 : cX8_forged.data.toList.drop 24 = dktX8_forged_1 := dk_seg dksX8_forged_0 24 rfl rfl
theorem dksX8_forged_2 : cX8_forged.data.toList.drop 48 = dktX8_forged_2 := dk_seg dksX8_forged_1 24 rfl rfl
theorem dksX8_forged_3 : cX8_forged.data.toList.drop 72 = dktX8_forged_3 := dk_seg dksX8_forged_2 24 rfl rfl
theorem dksX8_forged_4 : cX8_forged.data.toList.drop 96 = dktX8_forged_4 := dk_seg dksX8_forged_3 24 rfl rfl
theorem dksX8_forged_5 : cX8_forged.data.toList.drop 119 = dktX8_forged_5 := dk_seg dksX8_forged_4 23 rfl rfl
theorem dksX8_forged_6 : cX8_forged.data.toList.drop 141 = dktX8_forged_6 := dk_seg dksX8_forged_5 22 rfl rfl
theorem dX8_forged_0 : decode cX8_forged 0 = .ok (.aload_n 0, 1) := dk_42 (dk_at dksX8_forged_0 0 rfl rfl)
theorem dX8_forged_1 : decode cX8_forged 1 = .ok (.iload_n 1, 1) := dk_27 (dk_at dksX8_forged_0 1 rfl rfl)
theorem dX8_forged_2 : decode cX8_forged 2 = .ok (.iconst 0, 1) := dk_3 (dk_at dksX8_forged_0 2 rfl rfl)
theorem dX8_forged_3 : decode cX8_forged 3 = .ok (.sipush 255, 3) := dk_17 0 255 (dk_at dksX8_forged_0 3 rfl rfl)
theorem dX8_forged_6 : decode cX8_forged 6 = .ok (.invokestatic 53, 3) := dk_184 0 53 (dk_at dksX8_forged_0 6 rfl rfl)
theorem dX8_forged_9 : decode cX8_forged 9 = .ok (.ifCond .ne 7, 3) := dk_154 0 7 (dk_at dksX8_forged_0 9 rfl rfl)
theorem dX8_forged_12 : decode cX8_forged 12 = .ok (.iconst 1, 1) := dk_4 (dk_at dksX8_forged_0 12 rfl rfl)
theorem dX8_forged_13 : decode cX8_forged 13 = .ok (.goto 4, 3) := dk_167 0 4 (dk_at dksX8_forged_0 13 rfl rfl)
theorem dX8_forged_16 : decode cX8_forged 16 = .ok (.iconst 0, 1) := dk_3 (dk_at dksX8_forged_0 16 rfl rfl)
theorem dX8_forged_17 : decode cX8_forged 17 = .ok (.putfield 50, 3) := dk_181 0 50 (dk_at dksX8_forged_0 17 rfl rfl)
theorem dX8_forged_20 : decode cX8_forged 20 = .ok (.aload_n 0, 1) := dk_42 (dk_at dksX8_forged_0 20 rfl rfl)
theorem dX8_forged_21 : decode cX8_forged 21 = .ok (.getfield 50, 3) := dk_180 0 50 (dk_at dksX8_forged_0 21 rfl rfl)
theorem dX8_forged_24 : decode cX8_forged 24 = .ok (.ifCond .le 5, 3) := dk_158 0 5 (dk_at dksX8_forged_1 0 rfl rfl)
theorem dX8_forged_27 : decode cX8_forged 27 = .ok (.iconst 0, 1) := dk_3 (dk_at dksX8_forged_1 3 rfl rfl)
theorem dX8_forged_28 : decode cX8_forged 28 = .ok (.ireturn, 1) := dk_172 (dk_at dksX8_forged_1 4 rfl rfl)
theorem dX8_forged_29 : decode cX8_forged 29 = .ok (.iconst 0, 1) := dk_3 (dk_at dksX8_forged_1 5 rfl rfl)
theorem dX8_forged_30 : decode cX8_forged 30 = .ok (.istore_n 2, 1) := dk_61 (dk_at dksX8_forged_1 6 rfl rfl)
theorem dX8_forged_31 : decode cX8_forged 31 = .ok (.iconst 0, 1) := dk_3 (dk_at dksX8_forged_1 7 rfl rfl)
theorem dX8_forged_32 : decode cX8_forged 32 = .ok (.istore_n 3, 1) := dk_62 (dk_at dksX8_forged_1 8 rfl rfl)
theorem dX8_forged_33 : decode cX8_forged 33 = .ok (.iload_n 3, 1) := dk_29 (dk_at dksX8_forged_1 9 rfl rfl)
theorem dX8_forged_34 : decode cX8_forged 34 = .ok (.aload_n 0, 1) := dk_42 (dk_at dksX8_forged_1 10 rfl rfl)
theorem dX8_forged_35 : decode cX8_forged 35 = .ok (.getfield 7, 3) := dk_180 0 7 (dk_at dksX8_forged_1 11 rfl rfl)
theorem dX8_forged_38 : decode cX8_forged 38 = .ok (.iconst 4, 1) := dk_7 (dk_at dksX8_forged_1 14 rfl rfl)
theorem dX8_forged_39 : decode cX8_forged 39 = .ok (.iaload, 1) := dk_46 (dk_at dksX8_forged_1 15 rfl rfl)
theorem dX8_forged_40 : decode cX8_forged 40 = .ok (.if_icmp .ge 42, 3) := dk_162 0 42 (dk_at dksX8_forged_1 16 rfl rfl)
theorem dX8_forged_43 : decode cX8_forged 43 = .ok (.iload_n 2, 1) := dk_28 (dk_at dksX8_forged_1 19 rfl rfl)
theorem dX8_forged_44 : decode cX8_forged 44 = .ok (.aload_n 0, 1) := dk_42 (dk_at dksX8_forged_1 20 rfl rfl)
theorem dX8_forged_45 : decode cX8_forged 45 = .ok (.getfield 7, 3) := dk_180 0 7 (dk_at dksX8_forged_1 21 rfl rfl)
theorem dX8_forged_48 : decode cX8_forged 48 = .ok (.sipush 272, 3) := dk_17 1 16 (dk_at dksX8_forged_2 0 rfl rfl)
theorem dX8_forged_51 : decode cX8_forged 51 = .ok (.iload_n 3, 1) := dk_29 (dk_at dksX8_forged_2 3 rfl rfl)
theorem dX8_forged_52 : decode cX8_forged 52 = .ok (.iadd, 1) := dk_96 (dk_at dksX8_forged_2 4 rfl rfl)
theorem dX8_forged_53 : decode cX8_forged 53 = .ok (.iaload, 1) := dk_46 (dk_at dksX8_forged_2 5 rfl rfl)
theorem dX8_forged_54 : decode cX8_forged 54 = .ok (.iconst (-1), 1) := dk_2 (dk_at dksX8_forged_2 6 rfl rfl)
theorem dX8_forged_55 : decode cX8_forged 55 = .ok (.if_icmp .ne 7, 3) := dk_160 0 7 (dk_at dksX8_forged_2 7 rfl rfl)
theorem dX8_forged_58 : decode cX8_forged 58 = .ok (.iconst 0, 1) := dk_3 (dk_at dksX8_forged_2 10 rfl rfl)
theorem dX8_forged_59 : decode cX8_forged 59 = .ok (.goto 15, 3) := dk_167 0 15 (dk_at dksX8_forged_2 11 rfl rfl)
theorem dX8_forged_62 : decode cX8_forged 62 = .ok (.iconst 1, 1) := dk_4 (dk_at dksX8_forged_2 14 rfl rfl)
theorem dX8_forged_63 : decode cX8_forged 63 = .ok (.aload_n 0, 1) := dk_42 (dk_at dksX8_forged_2 15 rfl rfl)
theorem dX8_forged_64 : decode cX8_forged 64 = .ok (.getfield 7, 3) := dk_180 0 7 (dk_at dksX8_forged_2 16 rfl rfl)
theorem dX8_forged_67 : decode cX8_forged 67 = .ok (.sipush 272, 3) := dk_17 1 16 (dk_at dksX8_forged_2 19 rfl rfl)
theorem dX8_forged_70 : decode cX8_forged 70 = .ok (.iload_n 3, 1) := dk_29 (dk_at dksX8_forged_2 22 rfl rfl)
theorem dX8_forged_71 : decode cX8_forged 71 = .ok (.iadd, 1) := dk_96 (dk_at dksX8_forged_2 23 rfl rfl)
theorem dX8_forged_72 : decode cX8_forged 72 = .ok (.iaload, 1) := dk_46 (dk_at dksX8_forged_3 0 rfl rfl)
theorem dX8_forged_73 : decode cX8_forged 73 = .ok (.ishl, 1) := dk_120 (dk_at dksX8_forged_3 1 rfl rfl)
theorem dX8_forged_74 : decode cX8_forged 74 = .ok (.ior, 1) := dk_128 (dk_at dksX8_forged_3 2 rfl rfl)
theorem dX8_forged_75 : decode cX8_forged 75 = .ok (.istore_n 2, 1) := dk_61 (dk_at dksX8_forged_3 3 rfl rfl)
theorem dX8_forged_76 : decode cX8_forged 76 = .ok (.iinc 3 1, 3) := dk_132 3 1 (dk_at dksX8_forged_3 4 rfl rfl)
theorem dX8_forged_79 : decode cX8_forged 79 = .ok (.goto (-46), 3) := dk_167 255 210 (dk_at dksX8_forged_3 7 rfl rfl)
theorem dX8_forged_82 : decode cX8_forged 82 = .ok (.iconst (-1), 1) := dk_2 (dk_at dksX8_forged_3 10 rfl rfl)
theorem dX8_forged_83 : decode cX8_forged 83 = .ok (.istore_n 3, 1) := dk_62 (dk_at dksX8_forged_3 11 rfl rfl)
theorem dX8_forged_84 : decode cX8_forged 84 = .ok (.iconst 0, 1) := dk_3 (dk_at dksX8_forged_3 12 rfl rfl)
theorem dX8_forged_85 : decode cX8_forged 85 = .ok (.istore 4, 2) := dk_54 4 (dk_at dksX8_forged_3 13 rfl rfl)
theorem dX8_forged_87 : decode cX8_forged 87 = .ok (.iload 4, 2) := dk_21 4 (dk_at dksX8_forged_3 15 rfl rfl)
theorem dX8_forged_89 : decode cX8_forged 89 = .ok (.iload_n 2, 1) := dk_28 (dk_at dksX8_forged_3 17 rfl rfl)
theorem dX8_forged_90 : decode cX8_forged 90 = .ok (.if_icmp .gt 54, 3) := dk_163 0 54 (dk_at dksX8_forged_3 18 rfl rfl)
theorem dX8_forged_93 : decode cX8_forged 93 = .ok (.iload 4, 2) := dk_21 4 (dk_at dksX8_forged_3 21 rfl rfl)
theorem dX8_forged_95 : decode cX8_forged 95 = .ok (.iload_n 2, 1) := dk_28 (dk_at dksX8_forged_3 23 rfl rfl)
theorem dX8_forged_96 : decode cX8_forged 96 = .ok (.iconst (-1), 1) := dk_2 (dk_at dksX8_forged_4 0 rfl rfl)
theorem dX8_forged_97 : decode cX8_forged 97 = .ok (.ixor, 1) := dk_130 (dk_at dksX8_forged_4 1 rfl rfl)
theorem dX8_forged_98 : decode cX8_forged 98 = .ok (.iand, 1) := dk_126 (dk_at dksX8_forged_4 2 rfl rfl)
theorem dX8_forged_99 : decode cX8_forged 99 = .ok (.ifCond .ne 39, 3) := dk_154 0 39 (dk_at dksX8_forged_4 3 rfl rfl)
theorem dX8_forged_102 : decode cX8_forged 102 = .ok (.iload_n 3, 1) := dk_29 (dk_at dksX8_forged_4 6 rfl rfl)
theorem dX8_forged_103 : decode cX8_forged 103 = .ok (.iconst (-1), 1) := dk_2 (dk_at dksX8_forged_4 7 rfl rfl)
theorem dX8_forged_104 : decode cX8_forged 104 = .ok (.if_icmp .eq 18, 3) := dk_159 0 18 (dk_at dksX8_forged_4 8 rfl rfl)
theorem dX8_forged_107 : decode cX8_forged 107 = .ok (.iload 4, 2) := dk_21 4 (dk_at dksX8_forged_4 11 rfl rfl)
theorem dX8_forged_109 : decode cX8_forged 109 = .ok (.invokestatic 242, 3) := dk_184 0 242 (dk_at dksX8_forged_4 13 rfl rfl)
theorem dX8_forged_112 : decode cX8_forged 112 = .ok (.iload_n 3, 1) := dk_29 (dk_at dksX8_forged_4 16 rfl rfl)
theorem dX8_forged_113 : decode cX8_forged 113 = .ok (.invokestatic 242, 3) := dk_184 0 242 (dk_at dksX8_forged_4 17 rfl rfl)
theorem dX8_forged_116 : decode cX8_forged 116 = .ok (.if_icmp .lt 6, 3) := dk_161 0 6 (dk_at dksX8_forged_4 20 rfl rfl)
theorem dX8_forged_119 : decode cX8_forged 119 = .ok (.goto 19, 3) := dk_167 0 19 (dk_at dksX8_forged_5 0 rfl rfl)
theorem dX8_forged_122 : decode cX8_forged 122 = .ok (.iload_n 1, 1) := dk_27 (dk_at dksX8_forged_5 3 rfl rfl)
theorem dX8_forged_123 : decode cX8_forged 123 = .ok (.aload_n 0, 1) := dk_42 (dk_at dksX8_forged_5 4 rfl rfl)
theorem dX8_forged_124 : decode cX8_forged 124 = .ok (.iload 4, 2) := dk_21 4 (dk_at dksX8_forged_5 5 rfl rfl)
theorem dX8_forged_126 : decode cX8_forged 126 = .ok (.invokevirtual 366, 3) := dk_182 1 110 (dk_at dksX8_forged_5 7 rfl rfl)
theorem dX8_forged_129 : decode cX8_forged 129 = .ok (.iconst (-1), 1) := dk_2 (dk_at dksX8_forged_5 10 rfl rfl)
theorem dX8_forged_130 : decode cX8_forged 130 = .ok (.ixor, 1) := dk_130 (dk_at dksX8_forged_5 11 rfl rfl)
theorem dX8_forged_131 : decode cX8_forged 131 = .ok (.iand, 1) := dk_126 (dk_at dksX8_forged_5 12 rfl rfl)
theorem dX8_forged_132 : decode cX8_forged 132 = .ok (.ifCond .ne 6, 3) := dk_154 0 6 (dk_at dksX8_forged_5 13 rfl rfl)
theorem dX8_forged_135 : decode cX8_forged 135 = .ok (.iload 4, 2) := dk_21 4 (dk_at dksX8_forged_5 16 rfl rfl)
theorem dX8_forged_137 : decode cX8_forged 137 = .ok (.istore_n 3, 1) := dk_62 (dk_at dksX8_forged_5 18 rfl rfl)
theorem dX8_forged_138 : decode cX8_forged 138 = .ok (.iinc 4 1, 3) := dk_132 4 1 (dk_at dksX8_forged_5 19 rfl rfl)
theorem dX8_forged_141 : decode cX8_forged 141 = .ok (.goto (-54), 3) := dk_167 255 202 (dk_at dksX8_forged_6 0 rfl rfl)
theorem dX8_forged_144 : decode cX8_forged 144 = .ok (.iload_n 3, 1) := dk_29 (dk_at dksX8_forged_6 3 rfl rfl)
theorem dX8_forged_145 : decode cX8_forged 145 = .ok (.ireturn, 1) := dk_172 (dk_at dksX8_forged_6 4 rfl rfl)
abbrev cX8_marksOf : ByteArray := prog_21_method_110_code
def yX8_marksOf : MethodName := ⟨RX8, "marksOf", "(I)I"⟩
def dkwX8_marksOf_1 : List UInt8 := [29, 3, 182, 0, 57, 167, 0, 4, 3, 128, 61, 132, 3, 1, 167, 255, 222, 28, 172]
abbrev dktX8_marksOf_1 : List UInt8 := dkwX8_marksOf_1 ++ []
def dkwX8_marksOf_0 : List UInt8 := [3, 61, 3, 62, 29, 42, 180, 0, 7, 6, 46, 162, 0, 30, 28, 27, 29, 184, 0, 107, 153, 0, 12, 42]
abbrev dktX8_marksOf_0 : List UInt8 := dkwX8_marksOf_0 ++ dktX8_marksOf_1
theorem dksX8_marksOf_0 : cX8_marksOf.data.toList.drop 0 = dktX8_marksOf_0 := by decide +kernel
theorem dksX8_marksOf_1 : cX8_marksOf.data.toList.drop 24 = dktX8_marksOf_1 := dk_seg dksX8_marksOf_0 24 rfl rfl
theorem dX8_marksOf_0 : decode cX8_marksOf 0 = .ok (.iconst 0, 1) := dk_3 (dk_at dksX8_marksOf_0 0 rfl rfl)
theorem dX8_marksOf_1 : decode cX8_marksOf 1 = .ok (.istore_n 2, 1) := dk_61 (dk_at dksX8_marksOf_0 1 rfl rfl)
theorem dX8_marksOf_2 : decode cX8_marksOf 2 = .ok (.iconst 0, 1) := dk_3 (dk_at dksX8_marksOf_0 2 rfl rfl)
theorem dX8_marksOf_3 : decode cX8_marksOf 3 = .ok (.istore_n 3, 1) := dk_62 (dk_at dksX8_marksOf_0 3 rfl rfl)
theorem dX8_marksOf_4 : decode cX8_marksOf 4 = .ok (.iload_n 3, 1) := dk_29 (dk_at dksX8_marksOf_0 4 rfl rfl)
theorem dX8_marksOf_5 : decode cX8_marksOf 5 = .ok (.aload_n 0, 1) := dk_42 (dk_at dksX8_marksOf_0 5 rfl rfl)
theorem dX8_marksOf_6 : decode cX8_marksOf 6 = .ok (.getfield 7, 3) := dk_180 0 7 (dk_at dksX8_marksOf_0 6 rfl rfl)
theorem dX8_marksOf_9 : decode cX8_marksOf 9 = .ok (.iconst 3, 1) := dk_6 (dk_at dksX8_marksOf_0 9 rfl rfl)
theorem dX8_marksOf_10 : decode cX8_marksOf 10 = .ok (.iaload, 1) := dk_46 (dk_at dksX8_marksOf_0 10 rfl rfl)
theorem dX8_marksOf_11 : decode cX8_marksOf 11 = .ok (.if_icmp .ge 30, 3) := dk_162 0 30 (dk_at dksX8_marksOf_0 11 rfl rfl)
theorem dX8_marksOf_14 : decode cX8_marksOf 14 = .ok (.iload_n 2, 1) := dk_28 (dk_at dksX8_marksOf_0 14 rfl rfl)
theorem dX8_marksOf_15 : decode cX8_marksOf 15 = .ok (.iload_n 1, 1) := dk_27 (dk_at dksX8_marksOf_0 15 rfl rfl)
theorem dX8_marksOf_16 : decode cX8_marksOf 16 = .ok (.iload_n 3, 1) := dk_29 (dk_at dksX8_marksOf_0 16 rfl rfl)
theorem dX8_marksOf_17 : decode cX8_marksOf 17 = .ok (.invokestatic 107, 3) := dk_184 0 107 (dk_at dksX8_marksOf_0 17 rfl rfl)
theorem dX8_marksOf_20 : decode cX8_marksOf 20 = .ok (.ifCond .eq 12, 3) := dk_153 0 12 (dk_at dksX8_marksOf_0 20 rfl rfl)
theorem dX8_marksOf_23 : decode cX8_marksOf 23 = .ok (.aload_n 0, 1) := dk_42 (dk_at dksX8_marksOf_0 23 rfl rfl)
theorem dX8_marksOf_24 : decode cX8_marksOf 24 = .ok (.iload_n 3, 1) := dk_29 (dk_at dksX8_marksOf_1 0 rfl rfl)
theorem dX8_marksOf_25 : decode cX8_marksOf 25 = .ok (.iconst 0, 1) := dk_3 (dk_at dksX8_marksOf_1 1 rfl rfl)
theorem dX8_marksOf_26 : decode cX8_marksOf 26 = .ok (.invokevirtual 57, 3) := dk_182 0 57 (dk_at dksX8_marksOf_1 2 rfl rfl)
theorem dX8_marksOf_29 : decode cX8_marksOf 29 = .ok (.goto 4, 3) := dk_167 0 4 (dk_at dksX8_marksOf_1 5 rfl rfl)
theorem dX8_marksOf_32 : decode cX8_marksOf 32 = .ok (.iconst 0, 1) := dk_3 (dk_at dksX8_marksOf_1 8 rfl rfl)
theorem dX8_marksOf_33 : decode cX8_marksOf 33 = .ok (.ior, 1) := dk_128 (dk_at dksX8_marksOf_1 9 rfl rfl)
theorem dX8_marksOf_34 : decode cX8_marksOf 34 = .ok (.istore_n 2, 1) := dk_61 (dk_at dksX8_marksOf_1 10 rfl rfl)
theorem dX8_marksOf_35 : decode cX8_marksOf 35 = .ok (.iinc 3 1, 3) := dk_132 3 1 (dk_at dksX8_marksOf_1 11 rfl rfl)
theorem dX8_marksOf_38 : decode cX8_marksOf 38 = .ok (.goto (-34), 3) := dk_167 255 222 (dk_at dksX8_marksOf_1 14 rfl rfl)
theorem dX8_marksOf_41 : decode cX8_marksOf 41 = .ok (.iload_n 2, 1) := dk_28 (dk_at dksX8_marksOf_1 17 rfl rfl)
theorem dX8_marksOf_42 : decode cX8_marksOf 42 = .ok (.ireturn, 1) := dk_172 (dk_at dksX8_marksOf_1 18 rfl rfl)
abbrev cX8_ways : ByteArray := prog_21_method_113_code
def yX8_ways : MethodName := ⟨RX8, "ways", "(I)I"⟩
def dkwX8_ways_3 : List UInt8 := [29, 28, 27, 100, 184, 1, 113, 104, 172]
abbrev dktX8_ways_3 : List UInt8 := dkwX8_ways_3 ++ []
def dkwX8_ways_2 : List UInt8 := [21, 4, 27, 162, 0, 21, 29, 28, 21, 4, 100, 104, 21, 4, 4, 96, 108, 62, 132, 4, 1, 167, 255, 235]
abbrev dktX8_ways_2 : List UInt8 := dkwX8_ways_2 ++ dktX8_ways_3
def dkwX8_ways_1 : List UInt8 := [184, 0, 242, 61, 42, 180, 0, 50, 157, 0, 8, 27, 28, 164, 0, 5, 3, 172, 4, 62, 3, 54, 4]
abbrev dktX8_ways_1 : List UInt8 := dkwX8_ways_1 ++ dktX8_ways_2
def dkwX8_ways_0 : List UInt8 := [42, 27, 3, 16, 10, 184, 0, 53, 154, 0, 7, 4, 167, 0, 4, 3, 181, 0, 50, 42, 182, 1, 47]
abbrev dktX8_ways_0 : List UInt8 := dkwX8_ways_0 ++ dktX8_ways_1
theorem dksX8_ways_0 : cX8_ways.data.toList.drop 0 = dktX8_ways_0 := by decide +kernel
theorem dksX8_ways_1 : cX8_ways.data.toList.drop 23 = dktX8_ways_1 := dk_seg dksX8_ways_0 23 rfl rfl
theorem dksX8_ways_2 : cX8_ways.data.toList.drop 46 = dktX8_ways_2 := dk_seg dksX8_ways_1 23 rfl rfl
theorem dksX8_ways_3 : cX8_ways.data.toList.drop 70 = dktX8_ways_3 := dk_seg dksX8_ways_2 24 rfl rfl
theorem dX8_ways_0 : decode cX8_ways 0 = .ok (.aload_n 0, 1) := dk_42 (dk_at dksX8_ways_0 0 rfl rfl)
theorem dX8_ways_1 : decode cX8_ways 1 = .ok (.iload_n 1, 1) := dk_27 (dk_at dksX8_ways_0 1 rfl rfl)
theorem dX8_ways_2 : decode cX8_ways 2 = .ok (.iconst 0, 1) := dk_3 (dk_at dksX8_ways_0 2 rfl rfl)
theorem dX8_ways_3 : decode cX8_ways 3 = .ok (.bipush 10, 2) := dk_16 10 (dk_at dksX8_ways_0 3 rfl rfl)
theorem dX8_ways_5 : decode cX8_ways 5 = .ok (.invokestatic 53, 3) := dk_184 0 53 (dk_at dksX8_ways_0 5 rfl rfl)
theorem dX8_ways_8 : decode cX8_ways 8 = .ok (.ifCond .ne 7, 3) := dk_154 0 7 (dk_at dksX8_ways_0 8 rfl rfl)
theorem dX8_ways_11 : decode cX8_ways 11 = .ok (.iconst 1, 1) := dk_4 (dk_at dksX8_ways_0 11 rfl rfl)
theorem dX8_ways_12 : decode cX8_ways 12 = .ok (.goto 4, 3) := dk_167 0 4 (dk_at dksX8_ways_0 12 rfl rfl)
theorem dX8_ways_15 : decode cX8_ways 15 = .ok (.iconst 0, 1) := dk_3 (dk_at dksX8_ways_0 15 rfl rfl)
theorem dX8_ways_16 : decode cX8_ways 16 = .ok (.putfield 50, 3) := dk_181 0 50 (dk_at dksX8_ways_0 16 rfl rfl)
theorem dX8_ways_19 : decode cX8_ways 19 = .ok (.aload_n 0, 1) := dk_42 (dk_at dksX8_ways_0 19 rfl rfl)
theorem dX8_ways_20 : decode cX8_ways 20 = .ok (.invokevirtual 303, 3) := dk_182 1 47 (dk_at dksX8_ways_0 20 rfl rfl)
theorem dX8_ways_23 : decode cX8_ways 23 = .ok (.invokestatic 242, 3) := dk_184 0 242 (dk_at dksX8_ways_1 0 rfl rfl)
theorem dX8_ways_26 : decode cX8_ways 26 = .ok (.istore_n 2, 1) := dk_61 (dk_at dksX8_ways_1 3 rfl rfl)
theorem dX8_ways_27 : decode cX8_ways 27 = .ok (.aload_n 0, 1) := dk_42 (dk_at dksX8_ways_1 4 rfl rfl)
theorem dX8_ways_28 : decode cX8_ways 28 = .ok (.getfield 50, 3) := dk_180 0 50 (dk_at dksX8_ways_1 5 rfl rfl)
theorem dX8_ways_31 : decode cX8_ways 31 = .ok (.ifCond .gt 8, 3) := dk_157 0 8 (dk_at dksX8_ways_1 8 rfl rfl)
theorem dX8_ways_34 : decode cX8_ways 34 = .ok (.iload_n 1, 1) := dk_27 (dk_at dksX8_ways_1 11 rfl rfl)
theorem dX8_ways_35 : decode cX8_ways 35 = .ok (.iload_n 2, 1) := dk_28 (dk_at dksX8_ways_1 12 rfl rfl)
theorem dX8_ways_36 : decode cX8_ways 36 = .ok (.if_icmp .le 5, 3) := dk_164 0 5 (dk_at dksX8_ways_1 13 rfl rfl)
theorem dX8_ways_39 : decode cX8_ways 39 = .ok (.iconst 0, 1) := dk_3 (dk_at dksX8_ways_1 16 rfl rfl)
theorem dX8_ways_40 : decode cX8_ways 40 = .ok (.ireturn, 1) := dk_172 (dk_at dksX8_ways_1 17 rfl rfl)
theorem dX8_ways_41 : decode cX8_ways 41 = .ok (.iconst 1, 1) := dk_4 (dk_at dksX8_ways_1 18 rfl rfl)
theorem dX8_ways_42 : decode cX8_ways 42 = .ok (.istore_n 3, 1) := dk_62 (dk_at dksX8_ways_1 19 rfl rfl)
theorem dX8_ways_43 : decode cX8_ways 43 = .ok (.iconst 0, 1) := dk_3 (dk_at dksX8_ways_1 20 rfl rfl)
theorem dX8_ways_44 : decode cX8_ways 44 = .ok (.istore 4, 2) := dk_54 4 (dk_at dksX8_ways_1 21 rfl rfl)
theorem dX8_ways_46 : decode cX8_ways 46 = .ok (.iload 4, 2) := dk_21 4 (dk_at dksX8_ways_2 0 rfl rfl)
theorem dX8_ways_48 : decode cX8_ways 48 = .ok (.iload_n 1, 1) := dk_27 (dk_at dksX8_ways_2 2 rfl rfl)
theorem dX8_ways_49 : decode cX8_ways 49 = .ok (.if_icmp .ge 21, 3) := dk_162 0 21 (dk_at dksX8_ways_2 3 rfl rfl)
theorem dX8_ways_52 : decode cX8_ways 52 = .ok (.iload_n 3, 1) := dk_29 (dk_at dksX8_ways_2 6 rfl rfl)
theorem dX8_ways_53 : decode cX8_ways 53 = .ok (.iload_n 2, 1) := dk_28 (dk_at dksX8_ways_2 7 rfl rfl)
theorem dX8_ways_54 : decode cX8_ways 54 = .ok (.iload 4, 2) := dk_21 4 (dk_at dksX8_ways_2 8 rfl rfl)
theorem dX8_ways_56 : decode cX8_ways 56 = .ok (.isub, 1) := dk_100 (dk_at dksX8_ways_2 10 rfl rfl)
theorem dX8_ways_57 : decode cX8_ways 57 = .ok (.imul, 1) := dk_104 (dk_at dksX8_ways_2 11 rfl rfl)
theorem dX8_ways_58 : decode cX8_ways 58 = .ok (.iload 4, 2) := dk_21 4 (dk_at dksX8_ways_2 12 rfl rfl)
theorem dX8_ways_60 : decode cX8_ways 60 = .ok (.iconst 1, 1) := dk_4 (dk_at dksX8_ways_2 14 rfl rfl)
theorem dX8_ways_61 : decode cX8_ways 61 = .ok (.iadd, 1) := dk_96 (dk_at dksX8_ways_2 15 rfl rfl)
theorem dX8_ways_62 : decode cX8_ways 62 = .ok (.idiv, 1) := dk_108 (dk_at dksX8_ways_2 16 rfl rfl)
theorem dX8_ways_63 : decode cX8_ways 63 = .ok (.istore_n 3, 1) := dk_62 (dk_at dksX8_ways_2 17 rfl rfl)
theorem dX8_ways_64 : decode cX8_ways 64 = .ok (.iinc 4 1, 3) := dk_132 4 1 (dk_at dksX8_ways_2 18 rfl rfl)
theorem dX8_ways_67 : decode cX8_ways 67 = .ok (.goto (-21), 3) := dk_167 255 235 (dk_at dksX8_ways_2 21 rfl rfl)
theorem dX8_ways_70 : decode cX8_ways 70 = .ok (.iload_n 3, 1) := dk_29 (dk_at dksX8_ways_3 0 rfl rfl)
theorem dX8_ways_71 : decode cX8_ways 71 = .ok (.iload_n 2, 1) := dk_28 (dk_at dksX8_ways_3 1 rfl rfl)
theorem dX8_ways_72 : decode cX8_ways 72 = .ok (.iload_n 1, 1) := dk_27 (dk_at dksX8_ways_3 2 rfl rfl)
theorem dX8_ways_73 : decode cX8_ways 73 = .ok (.isub, 1) := dk_100 (dk_at dksX8_ways_3 3 rfl rfl)
theorem dX8_ways_74 : decode cX8_ways 74 = .ok (.invokestatic 369, 3) := dk_184 1 113 (dk_at dksX8_ways_3 4 rfl rfl)
theorem dX8_ways_77 : decode cX8_ways 77 = .ok (.imul, 1) := dk_104 (dk_at dksX8_ways_3 7 rfl rfl)
theorem dX8_ways_78 : decode cX8_ways 78 = .ok (.ireturn, 1) := dk_172 (dk_at dksX8_ways_3 8 rfl rfl)
abbrev cX8_none : ByteArray := prog_21_method_112_code
def yX8_none : MethodName := ⟨RX8, "none", "(I)I"⟩
def dkwX8_none_1 : List UInt8 := [54, 4, 28, 60, 21, 4, 61, 132, 3, 1, 167, 255, 234, 28, 172]
abbrev dktX8_none_1 : List UInt8 := dkwX8_none_1 ++ []
def dkwX8_none_0 : List UInt8 := [4, 60, 3, 61, 26, 154, 0, 5, 4, 172, 5, 62, 29, 26, 163, 0, 23, 29, 4, 100, 27, 28, 96, 104]
abbrev dktX8_none_0 : List UInt8 := dkwX8_none_0 ++ dktX8_none_1
theorem dksX8_none_0 : cX8_none.data.toList.drop 0 = dktX8_none_0 := by decide +kernel
theorem dksX8_none_1 : cX8_none.data.toList.drop 24 = dktX8_none_1 := dk_seg dksX8_none_0 24 rfl rfl
theorem dX8_none_0 : decode cX8_none 0 = .ok (.iconst 1, 1) := dk_4 (dk_at dksX8_none_0 0 rfl rfl)
theorem dX8_none_1 : decode cX8_none 1 = .ok (.istore_n 1, 1) := dk_60 (dk_at dksX8_none_0 1 rfl rfl)
theorem dX8_none_2 : decode cX8_none 2 = .ok (.iconst 0, 1) := dk_3 (dk_at dksX8_none_0 2 rfl rfl)
theorem dX8_none_3 : decode cX8_none 3 = .ok (.istore_n 2, 1) := dk_61 (dk_at dksX8_none_0 3 rfl rfl)
theorem dX8_none_4 : decode cX8_none 4 = .ok (.iload_n 0, 1) := dk_26 (dk_at dksX8_none_0 4 rfl rfl)
theorem dX8_none_5 : decode cX8_none 5 = .ok (.ifCond .ne 5, 3) := dk_154 0 5 (dk_at dksX8_none_0 5 rfl rfl)
theorem dX8_none_8 : decode cX8_none 8 = .ok (.iconst 1, 1) := dk_4 (dk_at dksX8_none_0 8 rfl rfl)
theorem dX8_none_9 : decode cX8_none 9 = .ok (.ireturn, 1) := dk_172 (dk_at dksX8_none_0 9 rfl rfl)
theorem dX8_none_10 : decode cX8_none 10 = .ok (.iconst 2, 1) := dk_5 (dk_at dksX8_none_0 10 rfl rfl)
theorem dX8_none_11 : decode cX8_none 11 = .ok (.istore_n 3, 1) := dk_62 (dk_at dksX8_none_0 11 rfl rfl)
theorem dX8_none_12 : decode cX8_none 12 = .ok (.iload_n 3, 1) := dk_29 (dk_at dksX8_none_0 12 rfl rfl)
theorem dX8_none_13 : decode cX8_none 13 = .ok (.iload_n 0, 1) := dk_26 (dk_at dksX8_none_0 13 rfl rfl)
theorem dX8_none_14 : decode cX8_none 14 = .ok (.if_icmp .gt 23, 3) := dk_163 0 23 (dk_at dksX8_none_0 14 rfl rfl)
theorem dX8_none_17 : decode cX8_none 17 = .ok (.iload_n 3, 1) := dk_29 (dk_at dksX8_none_0 17 rfl rfl)
theorem dX8_none_18 : decode cX8_none 18 = .ok (.iconst 1, 1) := dk_4 (dk_at dksX8_none_0 18 rfl rfl)
theorem dX8_none_19 : decode cX8_none 19 = .ok (.isub, 1) := dk_100 (dk_at dksX8_none_0 19 rfl rfl)
theorem dX8_none_20 : decode cX8_none 20 = .ok (.iload_n 1, 1) := dk_27 (dk_at dksX8_none_0 20 rfl rfl)
theorem dX8_none_21 : decode cX8_none 21 = .ok (.iload_n 2, 1) := dk_28 (dk_at dksX8_none_0 21 rfl rfl)
theorem dX8_none_22 : decode cX8_none 22 = .ok (.iadd, 1) := dk_96 (dk_at dksX8_none_0 22 rfl rfl)
theorem dX8_none_23 : decode cX8_none 23 = .ok (.imul, 1) := dk_104 (dk_at dksX8_none_0 23 rfl rfl)
theorem dX8_none_24 : decode cX8_none 24 = .ok (.istore 4, 2) := dk_54 4 (dk_at dksX8_none_1 0 rfl rfl)
theorem dX8_none_26 : decode cX8_none 26 = .ok (.iload_n 2, 1) := dk_28 (dk_at dksX8_none_1 2 rfl rfl)
theorem dX8_none_27 : decode cX8_none 27 = .ok (.istore_n 1, 1) := dk_60 (dk_at dksX8_none_1 3 rfl rfl)
theorem dX8_none_28 : decode cX8_none 28 = .ok (.iload 4, 2) := dk_21 4 (dk_at dksX8_none_1 4 rfl rfl)
theorem dX8_none_30 : decode cX8_none 30 = .ok (.istore_n 2, 1) := dk_61 (dk_at dksX8_none_1 6 rfl rfl)
theorem dX8_none_31 : decode cX8_none 31 = .ok (.iinc 3 1, 3) := dk_132 3 1 (dk_at dksX8_none_1 7 rfl rfl)
theorem dX8_none_34 : decode cX8_none 34 = .ok (.goto (-22), 3) := dk_167 255 234 (dk_at dksX8_none_1 10 rfl rfl)
theorem dX8_none_37 : decode cX8_none 37 = .ok (.iload_n 2, 1) := dk_28 (dk_at dksX8_none_1 13 rfl rfl)
theorem dX8_none_38 : decode cX8_none 38 = .ok (.ireturn, 1) := dk_172 (dk_at dksX8_none_1 14 rfl rfl)
abbrev cX8_talk : ByteArray := prog_21_method_115_code
def yX8_talk : MethodName := ⟨RX8, "talk", "(I)I"⟩
def dkwX8_talk_4 : List UInt8 := [21, 4, 96, 46, 120, 128, 62, 132, 4, 1, 167, 255, 225, 29, 172]
abbrev dktX8_talk_4 : List UInt8 := dkwX8_talk_4 ++ []
def dkwX8_talk_3 : List UInt8 := [54, 4, 21, 4, 42, 28, 182, 1, 116, 162, 0, 27, 29, 4, 42, 180, 0, 7, 17, 1, 16, 28, 96]
abbrev dktX8_talk_3 : List UInt8 := dkwX8_talk_3 ++ dktX8_talk_4
def dkwX8_talk_2 : List UInt8 := [180, 0, 7, 17, 1, 16, 28, 96, 4, 100, 46, 2, 159, 0, 9, 132, 2, 255, 167, 255, 233, 3, 62, 3]
abbrev dktX8_talk_2 : List UInt8 := dkwX8_talk_2 ++ dktX8_talk_3
def dkwX8_talk_1 : List UInt8 := [42, 180, 0, 7, 17, 1, 16, 27, 96, 46, 2, 160, 0, 5, 3, 172, 27, 61, 28, 158, 0, 25, 42]
abbrev dktX8_talk_1 : List UInt8 := dkwX8_talk_1 ++ dktX8_talk_2
def dkwX8_talk_0 : List UInt8 := [42, 42, 27, 182, 1, 6, 154, 0, 7, 4, 167, 0, 4, 3, 181, 0, 50, 42, 180, 0, 50, 157, 0, 17]
abbrev dktX8_talk_0 : List UInt8 := dkwX8_talk_0 ++ dktX8_talk_1
theorem dksX8_talk_0 : cX8_talk.data.toList.drop 0 = dktX8_talk_0 := by decide +kernel
theorem dksX8_talk_1 : cX8_talk.data.toList.drop 24 = dktX8_talk_1 := dk_seg dksX8_talk_0 24 rfl rfl
theorem dksX8_talk_2 : cX8_talk.data.toList.drop 47 = dktX8_talk_2 := dk_seg dksX8_talk_1 23 rfl rfl
theorem dksX8_talk_3 : cX8_talk.data.toList.drop 71 = dktX8_talk_3 := dk_seg dksX8_talk_2 24 rfl rfl
theorem dksX8_talk_4 : cX8_talk.data.toList.drop 94 = dktX8_talk_4 := dk_seg dksX8_talk_3 23 rfl rfl
theorem dX8_talk_0 : decode cX8_talk 0 = .ok (.aload_n 0, 1) := dk_42 (dk_at dksX8_talk_0 0 rfl rfl)
theorem dX8_talk_1 : decode cX8_talk 1 = .ok (.aload_n 0, 1) := dk_42 (dk_at dksX8_talk_0 1 rfl rfl)
theorem dX8_talk_2 : decode cX8_talk 2 = .ok (.iload_n 1, 1) := dk_27 (dk_at dksX8_talk_0 2 rfl rfl)
theorem dX8_talk_3 : decode cX8_talk 3 = .ok (.invokevirtual 262, 3) := dk_182 1 6 (dk_at dksX8_talk_0 3 rfl rfl)
theorem dX8_talk_6 : decode cX8_talk 6 = .ok (.ifCond .ne 7, 3) := dk_154 0 7 (dk_at dksX8_talk_0 6 rfl rfl)
theorem dX8_talk_9 : decode cX8_talk 9 = .ok (.iconst 1, 1) := dk_4 (dk_at dksX8_talk_0 9 rfl rfl)
theorem dX8_talk_10 : decode cX8_talk 10 = .ok (.goto 4, 3) := dk_167 0 4 (dk_at dksX8_talk_0 10 rfl rfl)
theorem dX8_talk_13 : decode cX8_talk 13 = .ok (.iconst 0, 1) := dk_3 (dk_at dksX8_talk_0 13 rfl rfl)
theorem dX8_talk_14 : decode cX8_talk 14 = .ok (.putfield 50, 3) := dk_181 0 50 (dk_at dksX8_talk_0 14 rfl rfl)
theorem dX8_talk_17 : decode cX8_talk 17 = .ok (.aload_n 0, 1) := dk_42 (dk_at dksX8_talk_0 17 rfl rfl)
theorem dX8_talk_18 : decode cX8_talk 18 = .ok (.getfield 50, 3) := dk_180 0 50 (dk_at dksX8_talk_0 18 rfl rfl)
theorem dX8_talk_21 : decode cX8_talk 21 = .ok (.ifCond .gt 17, 3) := dk_157 0 17 (dk_at dksX8_talk_0 21 rfl rfl)
theorem dX8_talk_24 : decode cX8_talk 24 = .ok (.aload_n 0, 1) := dk_42 (dk_at dksX8_talk_1 0 rfl rfl)
theorem dX8_talk_25 : decode cX8_talk 25 = .ok (.getfield 7, 3) := dk_180 0 7 (dk_at dksX8_talk_1 1 rfl rfl)
theorem dX8_talk_28 : decode cX8_talk 28 = .ok (.sipush 272, 3) := dk_17 1 16 (dk_at dksX8_talk_1 4 rfl rfl)
theorem dX8_talk_31 : decode cX8_talk 31 = .ok (.iload_n 1, 1) := dk_27 (dk_at dksX8_talk_1 7 rfl rfl)
theorem dX8_talk_32 : decode cX8_talk 32 = .ok (.iadd, 1) := dk_96 (dk_at dksX8_talk_1 8 rfl rfl)
theorem dX8_talk_33 : decode cX8_talk 33 = .ok (.iaload, 1) := dk_46 (dk_at dksX8_talk_1 9 rfl rfl)
theorem dX8_talk_34 : decode cX8_talk 34 = .ok (.iconst (-1), 1) := dk_2 (dk_at dksX8_talk_1 10 rfl rfl)
theorem dX8_talk_35 : decode cX8_talk 35 = .ok (.if_icmp .ne 5, 3) := dk_160 0 5 (dk_at dksX8_talk_1 11 rfl rfl)
theorem dX8_talk_38 : decode cX8_talk 38 = .ok (.iconst 0, 1) := dk_3 (dk_at dksX8_talk_1 14 rfl rfl)
theorem dX8_talk_39 : decode cX8_talk 39 = .ok (.ireturn, 1) := dk_172 (dk_at dksX8_talk_1 15 rfl rfl)
theorem dX8_talk_40 : decode cX8_talk 40 = .ok (.iload_n 1, 1) := dk_27 (dk_at dksX8_talk_1 16 rfl rfl)
theorem dX8_talk_41 : decode cX8_talk 41 = .ok (.istore_n 2, 1) := dk_61 (dk_at dksX8_talk_1 17 rfl rfl)
theorem dX8_talk_42 : decode cX8_talk 42 = .ok (.iload_n 2, 1) := dk_28 (dk_at dksX8_talk_1 18 rfl rfl)
theorem dX8_talk_43 : decode cX8_talk 43 = .ok (.ifCond .le 25, 3) := dk_158 0 25 (dk_at dksX8_talk_1 19 rfl rfl)
theorem dX8_talk_46 : decode cX8_talk 46 = .ok (.aload_n 0, 1) := dk_42 (dk_at dksX8_talk_1 22 rfl rfl)
theorem dX8_talk_47 : decode cX8_talk 47 = .ok (.getfield 7, 3) := dk_180 0 7 (dk_at dksX8_talk_2 0 rfl rfl)
theorem dX8_talk_50 : decode cX8_talk 50 = .ok (.sipush 272, 3) := dk_17 1 16 (dk_at dksX8_talk_2 3 rfl rfl)
theorem dX8_talk_53 : decode cX8_talk 53 = .ok (.iload_n 2, 1) := dk_28 (dk_at dksX8_talk_2 6 rfl rfl)
theorem dX8_talk_54 : decode cX8_talk 54 = .ok (.iadd, 1) := dk_96 (dk_at dksX8_talk_2 7 rfl rfl)
theorem dX8_talk_55 : decode cX8_talk 55 = .ok (.iconst 1, 1) := dk_4 (dk_at dksX8_talk_2 8 rfl rfl)
theorem dX8_talk_56 : decode cX8_talk 56 = .ok (.isub, 1) := dk_100 (dk_at dksX8_talk_2 9 rfl rfl)
theorem dX8_talk_57 : decode cX8_talk 57 = .ok (.iaload, 1) := dk_46 (dk_at dksX8_talk_2 10 rfl rfl)
theorem dX8_talk_58 : decode cX8_talk 58 = .ok (.iconst (-1), 1) := dk_2 (dk_at dksX8_talk_2 11 rfl rfl)
theorem dX8_talk_59 : decode cX8_talk 59 = .ok (.if_icmp .eq 9, 3) := dk_159 0 9 (dk_at dksX8_talk_2 12 rfl rfl)
theorem dX8_talk_62 : decode cX8_talk 62 = .ok (.iinc 2 (-1), 3) := dk_132 2 255 (dk_at dksX8_talk_2 15 rfl rfl)
theorem dX8_talk_65 : decode cX8_talk 65 = .ok (.goto (-23), 3) := dk_167 255 233 (dk_at dksX8_talk_2 18 rfl rfl)
theorem dX8_talk_68 : decode cX8_talk 68 = .ok (.iconst 0, 1) := dk_3 (dk_at dksX8_talk_2 21 rfl rfl)
theorem dX8_talk_69 : decode cX8_talk 69 = .ok (.istore_n 3, 1) := dk_62 (dk_at dksX8_talk_2 22 rfl rfl)
theorem dX8_talk_70 : decode cX8_talk 70 = .ok (.iconst 0, 1) := dk_3 (dk_at dksX8_talk_2 23 rfl rfl)
theorem dX8_talk_71 : decode cX8_talk 71 = .ok (.istore 4, 2) := dk_54 4 (dk_at dksX8_talk_3 0 rfl rfl)
theorem dX8_talk_73 : decode cX8_talk 73 = .ok (.iload 4, 2) := dk_21 4 (dk_at dksX8_talk_3 2 rfl rfl)
theorem dX8_talk_75 : decode cX8_talk 75 = .ok (.aload_n 0, 1) := dk_42 (dk_at dksX8_talk_3 4 rfl rfl)
theorem dX8_talk_76 : decode cX8_talk 76 = .ok (.iload_n 2, 1) := dk_28 (dk_at dksX8_talk_3 5 rfl rfl)
theorem dX8_talk_77 : decode cX8_talk 77 = .ok (.invokevirtual 372, 3) := dk_182 1 116 (dk_at dksX8_talk_3 6 rfl rfl)
theorem dX8_talk_80 : decode cX8_talk 80 = .ok (.if_icmp .ge 27, 3) := dk_162 0 27 (dk_at dksX8_talk_3 9 rfl rfl)
theorem dX8_talk_83 : decode cX8_talk 83 = .ok (.iload_n 3, 1) := dk_29 (dk_at dksX8_talk_3 12 rfl rfl)
theorem dX8_talk_84 : decode cX8_talk 84 = .ok (.iconst 1, 1) := dk_4 (dk_at dksX8_talk_3 13 rfl rfl)
theorem dX8_talk_85 : decode cX8_talk 85 = .ok (.aload_n 0, 1) := dk_42 (dk_at dksX8_talk_3 14 rfl rfl)
theorem dX8_talk_86 : decode cX8_talk 86 = .ok (.getfield 7, 3) := dk_180 0 7 (dk_at dksX8_talk_3 15 rfl rfl)
theorem dX8_talk_89 : decode cX8_talk 89 = .ok (.sipush 272, 3) := dk_17 1 16 (dk_at dksX8_talk_3 18 rfl rfl)
theorem dX8_talk_92 : decode cX8_talk 92 = .ok (.iload_n 2, 1) := dk_28 (dk_at dksX8_talk_3 21 rfl rfl)
theorem dX8_talk_93 : decode cX8_talk 93 = .ok (.iadd, 1) := dk_96 (dk_at dksX8_talk_3 22 rfl rfl)
theorem dX8_talk_94 : decode cX8_talk 94 = .ok (.iload 4, 2) := dk_21 4 (dk_at dksX8_talk_4 0 rfl rfl)
theorem dX8_talk_96 : decode cX8_talk 96 = .ok (.iadd, 1) := dk_96 (dk_at dksX8_talk_4 2 rfl rfl)
theorem dX8_talk_97 : decode cX8_talk 97 = .ok (.iaload, 1) := dk_46 (dk_at dksX8_talk_4 3 rfl rfl)
theorem dX8_talk_98 : decode cX8_talk 98 = .ok (.ishl, 1) := dk_120 (dk_at dksX8_talk_4 4 rfl rfl)
theorem dX8_talk_99 : decode cX8_talk 99 = .ok (.ior, 1) := dk_128 (dk_at dksX8_talk_4 5 rfl rfl)
theorem dX8_talk_100 : decode cX8_talk 100 = .ok (.istore_n 3, 1) := dk_62 (dk_at dksX8_talk_4 6 rfl rfl)
theorem dX8_talk_101 : decode cX8_talk 101 = .ok (.iinc 4 1, 3) := dk_132 4 1 (dk_at dksX8_talk_4 7 rfl rfl)
theorem dX8_talk_104 : decode cX8_talk 104 = .ok (.goto (-31), 3) := dk_167 255 225 (dk_at dksX8_talk_4 10 rfl rfl)
theorem dX8_talk_107 : decode cX8_talk 107 = .ok (.iload_n 3, 1) := dk_29 (dk_at dksX8_talk_4 13 rfl rfl)
theorem dX8_talk_108 : decode cX8_talk 108 = .ok (.ireturn, 1) := dk_172 (dk_at dksX8_talk_4 14 rfl rfl)
abbrev cX8_rowFrom : ByteArray := prog_21_method_114_code
def yX8_rowFrom : MethodName := ⟨RX8, "rowFrom", "(I)I"⟩
def dkwX8_rowFrom_1 : List UInt8 := [96, 46, 2, 159, 0, 9, 132, 2, 1, 167, 255, 225, 28, 172]
abbrev dktX8_rowFrom_1 : List UInt8 := dkwX8_rowFrom_1 ++ []
def dkwX8_rowFrom_0 : List UInt8 := [3, 61, 27, 28, 96, 42, 180, 0, 7, 7, 46, 162, 0, 25, 42, 180, 0, 7, 17, 1, 16, 27, 96, 28]
abbrev dktX8_rowFrom_0 : List UInt8 := dkwX8_rowFrom_0 ++ dktX8_rowFrom_1
theorem dksX8_rowFrom_0 : cX8_rowFrom.data.toList.drop 0 = dktX8_rowFrom_0 := by decide +kernel
theorem dksX8_rowFrom_1 : cX8_rowFrom.data.toList.drop 24 = dktX8_rowFrom_1 := dk_seg dksX8_rowFrom_0 24 rfl rfl
theorem dX8_rowFrom_0 : decode cX8_rowFrom 0 = .ok (.iconst 0, 1) := dk_3 (dk_at dksX8_rowFrom_0 0 rfl rfl)
theorem dX8_rowFrom_1 : decode cX8_rowFrom 1 = .ok (.istore_n 2, 1) := dk_61 (dk_at dksX8_rowFrom_0 1 rfl rfl)
theorem dX8_rowFrom_2 : decode cX8_rowFrom 2 = .ok (.iload_n 1, 1) := dk_27 (dk_at dksX8_rowFrom_0 2 rfl rfl)
theorem dX8_rowFrom_3 : decode cX8_rowFrom 3 = .ok (.iload_n 2, 1) := dk_28 (dk_at dksX8_rowFrom_0 3 rfl rfl)
theorem dX8_rowFrom_4 : decode cX8_rowFrom 4 = .ok (.iadd, 1) := dk_96 (dk_at dksX8_rowFrom_0 4 rfl rfl)
theorem dX8_rowFrom_5 : decode cX8_rowFrom 5 = .ok (.aload_n 0, 1) := dk_42 (dk_at dksX8_rowFrom_0 5 rfl rfl)
theorem dX8_rowFrom_6 : decode cX8_rowFrom 6 = .ok (.getfield 7, 3) := dk_180 0 7 (dk_at dksX8_rowFrom_0 6 rfl rfl)
theorem dX8_rowFrom_9 : decode cX8_rowFrom 9 = .ok (.iconst 4, 1) := dk_7 (dk_at dksX8_rowFrom_0 9 rfl rfl)
theorem dX8_rowFrom_10 : decode cX8_rowFrom 10 = .ok (.iaload, 1) := dk_46 (dk_at dksX8_rowFrom_0 10 rfl rfl)
theorem dX8_rowFrom_11 : decode cX8_rowFrom 11 = .ok (.if_icmp .ge 25, 3) := dk_162 0 25 (dk_at dksX8_rowFrom_0 11 rfl rfl)
theorem dX8_rowFrom_14 : decode cX8_rowFrom 14 = .ok (.aload_n 0, 1) := dk_42 (dk_at dksX8_rowFrom_0 14 rfl rfl)
theorem dX8_rowFrom_15 : decode cX8_rowFrom 15 = .ok (.getfield 7, 3) := dk_180 0 7 (dk_at dksX8_rowFrom_0 15 rfl rfl)
theorem dX8_rowFrom_18 : decode cX8_rowFrom 18 = .ok (.sipush 272, 3) := dk_17 1 16 (dk_at dksX8_rowFrom_0 18 rfl rfl)
theorem dX8_rowFrom_21 : decode cX8_rowFrom 21 = .ok (.iload_n 1, 1) := dk_27 (dk_at dksX8_rowFrom_0 21 rfl rfl)
theorem dX8_rowFrom_22 : decode cX8_rowFrom 22 = .ok (.iadd, 1) := dk_96 (dk_at dksX8_rowFrom_0 22 rfl rfl)
theorem dX8_rowFrom_23 : decode cX8_rowFrom 23 = .ok (.iload_n 2, 1) := dk_28 (dk_at dksX8_rowFrom_0 23 rfl rfl)
theorem dX8_rowFrom_24 : decode cX8_rowFrom 24 = .ok (.iadd, 1) := dk_96 (dk_at dksX8_rowFrom_1 0 rfl rfl)
theorem dX8_rowFrom_25 : decode cX8_rowFrom 25 = .ok (.iaload, 1) := dk_46 (dk_at dksX8_rowFrom_1 1 rfl rfl)
theorem dX8_rowFrom_26 : decode cX8_rowFrom 26 = .ok (.iconst (-1), 1) := dk_2 (dk_at dksX8_rowFrom_1 2 rfl rfl)
theorem dX8_rowFrom_27 : decode cX8_rowFrom 27 = .ok (.if_icmp .eq 9, 3) := dk_159 0 9 (dk_at dksX8_rowFrom_1 3 rfl rfl)
theorem dX8_rowFrom_30 : decode cX8_rowFrom 30 = .ok (.iinc 2 1, 3) := dk_132 2 1 (dk_at dksX8_rowFrom_1 6 rfl rfl)
theorem dX8_rowFrom_33 : decode cX8_rowFrom 33 = .ok (.goto (-31), 3) := dk_167 255 225 (dk_at dksX8_rowFrom_1 9 rfl rfl)
theorem dX8_rowFrom_36 : decode cX8_rowFrom 36 = .ok (.iload_n 2, 1) := dk_28 (dk_at dksX8_rowFrom_1 12 rfl rfl)
theorem dX8_rowFrom_37 : decode cX8_rowFrom 37 = .ok (.ireturn, 1) := dk_172 (dk_at dksX8_rowFrom_1 13 rfl rfl)
abbrev cX8_row : ByteArray := prog_21_method_116_code
def yX8_row : MethodName := ⟨RX8, "row", "(Z)I"⟩
def dkwX8_row_2 : List UInt8 := [132, 4, 1, 167, 255, 219, 27, 153, 0, 7, 28, 167, 0, 4, 29, 172]
abbrev dktX8_row_2 : List UInt8 := dkwX8_row_2 ++ []
def dkwX8_row_1 : List UInt8 := [21, 4, 182, 1, 116, 29, 163, 0, 6, 167, 0, 13, 42, 21, 4, 182, 1, 116, 62, 21, 4, 61]
abbrev dktX8_row_1 : List UInt8 := dkwX8_row_1 ++ dktX8_row_2
def dkwX8_row_0 : List UInt8 := [42, 3, 181, 0, 50, 2, 61, 3, 62, 3, 54, 4, 21, 4, 42, 180, 0, 7, 7, 46, 162, 0, 32, 42]
abbrev dktX8_row_0 : List UInt8 := dkwX8_row_0 ++ dktX8_row_1
theorem dksX8_row_0 : cX8_row.data.toList.drop 0 = dktX8_row_0 := by decide +kernel
theorem dksX8_row_1 : cX8_row.data.toList.drop 24 = dktX8_row_1 := dk_seg dksX8_row_0 24 rfl rfl
theorem dksX8_row_2 : cX8_row.data.toList.drop 46 = dktX8_row_2 := dk_seg dksX8_row_1 22 rfl rfl
theorem dX8_row_0 : decode cX8_row 0 = .ok (.aload_n 0, 1) := dk_42 (dk_at dksX8_row_0 0 rfl rfl)
theorem dX8_row_1 : decode cX8_row 1 = .ok (.iconst 0, 1) := dk_3 (dk_at dksX8_row_0 1 rfl rfl)
theorem dX8_row_2 : decode cX8_row 2 = .ok (.putfield 50, 3) := dk_181 0 50 (dk_at dksX8_row_0 2 rfl rfl)
theorem dX8_row_5 : decode cX8_row 5 = .ok (.iconst (-1), 1) := dk_2 (dk_at dksX8_row_0 5 rfl rfl)
theorem dX8_row_6 : decode cX8_row 6 = .ok (.istore_n 2, 1) := dk_61 (dk_at dksX8_row_0 6 rfl rfl)
theorem dX8_row_7 : decode cX8_row 7 = .ok (.iconst 0, 1) := dk_3 (dk_at dksX8_row_0 7 rfl rfl)
theorem dX8_row_8 : decode cX8_row 8 = .ok (.istore_n 3, 1) := dk_62 (dk_at dksX8_row_0 8 rfl rfl)
theorem dX8_row_9 : decode cX8_row 9 = .ok (.iconst 0, 1) := dk_3 (dk_at dksX8_row_0 9 rfl rfl)
theorem dX8_row_10 : decode cX8_row 10 = .ok (.istore 4, 2) := dk_54 4 (dk_at dksX8_row_0 10 rfl rfl)
theorem dX8_row_12 : decode cX8_row 12 = .ok (.iload 4, 2) := dk_21 4 (dk_at dksX8_row_0 12 rfl rfl)
theorem dX8_row_14 : decode cX8_row 14 = .ok (.aload_n 0, 1) := dk_42 (dk_at dksX8_row_0 14 rfl rfl)
theorem dX8_row_15 : decode cX8_row 15 = .ok (.getfield 7, 3) := dk_180 0 7 (dk_at dksX8_row_0 15 rfl rfl)
theorem dX8_row_18 : decode cX8_row 18 = .ok (.iconst 4, 1) := dk_7 (dk_at dksX8_row_0 18 rfl rfl)
theorem dX8_row_19 : decode cX8_row 19 = .ok (.iaload, 1) := dk_46 (dk_at dksX8_row_0 19 rfl rfl)
theorem dX8_row_20 : decode cX8_row 20 = .ok (.if_icmp .ge 32, 3) := dk_162 0 32 (dk_at dksX8_row_0 20 rfl rfl)
theorem dX8_row_23 : decode cX8_row 23 = .ok (.aload_n 0, 1) := dk_42 (dk_at dksX8_row_0 23 rfl rfl)
theorem dX8_row_24 : decode cX8_row 24 = .ok (.iload 4, 2) := dk_21 4 (dk_at dksX8_row_1 0 rfl rfl)
theorem dX8_row_26 : decode cX8_row 26 = .ok (.invokevirtual 372, 3) := dk_182 1 116 (dk_at dksX8_row_1 2 rfl rfl)
theorem dX8_row_29 : decode cX8_row 29 = .ok (.iload_n 3, 1) := dk_29 (dk_at dksX8_row_1 5 rfl rfl)
theorem dX8_row_30 : decode cX8_row 30 = .ok (.if_icmp .gt 6, 3) := dk_163 0 6 (dk_at dksX8_row_1 6 rfl rfl)
theorem dX8_row_33 : decode cX8_row 33 = .ok (.goto 13, 3) := dk_167 0 13 (dk_at dksX8_row_1 9 rfl rfl)
theorem dX8_row_36 : decode cX8_row 36 = .ok (.aload_n 0, 1) := dk_42 (dk_at dksX8_row_1 12 rfl rfl)
theorem dX8_row_37 : decode cX8_row 37 = .ok (.iload 4, 2) := dk_21 4 (dk_at dksX8_row_1 13 rfl rfl)
theorem dX8_row_39 : decode cX8_row 39 = .ok (.invokevirtual 372, 3) := dk_182 1 116 (dk_at dksX8_row_1 15 rfl rfl)
theorem dX8_row_42 : decode cX8_row 42 = .ok (.istore_n 3, 1) := dk_62 (dk_at dksX8_row_1 18 rfl rfl)
theorem dX8_row_43 : decode cX8_row 43 = .ok (.iload 4, 2) := dk_21 4 (dk_at dksX8_row_1 19 rfl rfl)
theorem dX8_row_45 : decode cX8_row 45 = .ok (.istore_n 2, 1) := dk_61 (dk_at dksX8_row_1 21 rfl rfl)
theorem dX8_row_46 : decode cX8_row 46 = .ok (.iinc 4 1, 3) := dk_132 4 1 (dk_at dksX8_row_2 0 rfl rfl)
theorem dX8_row_49 : decode cX8_row 49 = .ok (.goto (-37), 3) := dk_167 255 219 (dk_at dksX8_row_2 3 rfl rfl)
theorem dX8_row_52 : decode cX8_row 52 = .ok (.iload_n 1, 1) := dk_27 (dk_at dksX8_row_2 6 rfl rfl)
theorem dX8_row_53 : decode cX8_row 53 = .ok (.ifCond .eq 7, 3) := dk_153 0 7 (dk_at dksX8_row_2 7 rfl rfl)
theorem dX8_row_56 : decode cX8_row 56 = .ok (.iload_n 2, 1) := dk_28 (dk_at dksX8_row_2 10 rfl rfl)
theorem dX8_row_57 : decode cX8_row 57 = .ok (.goto 4, 3) := dk_167 0 4 (dk_at dksX8_row_2 11 rfl rfl)
theorem dX8_row_60 : decode cX8_row 60 = .ok (.iload_n 3, 1) := dk_29 (dk_at dksX8_row_2 14 rfl rfl)
theorem dX8_row_61 : decode cX8_row 61 = .ok (.ireturn, 1) := dk_172 (dk_at dksX8_row_2 15 rfl rfl)
abbrev cX8_chain : ByteArray := prog_21_method_117_code
def yX8_chain : MethodName := ⟨RX8, "chain", "(II)I"⟩
def dkwX8_chain_6 : List UInt8 := [167, 255, 175, 132, 3, 1, 167, 255, 160, 42, 180, 0, 47, 28, 46, 172]
abbrev dktX8_chain_6 : List UInt8 := dkwX8_chain_6 ++ []
def dkwX8_chain_5 : List UInt8 := [153, 0, 13, 42, 180, 0, 47, 21, 5, 29, 4, 96, 79, 132, 5, 1, 167, 255, 195, 132, 4, 1]
abbrev dktX8_chain_5 : List UInt8 := dkwX8_chain_5 ++ dktX8_chain_6
def dkwX8_chain_4 : List UInt8 := [180, 0, 47, 21, 5, 46, 2, 160, 0, 28, 42, 21, 4, 8, 182, 0, 57, 21, 5, 184, 0, 107]
abbrev dktX8_chain_4 : List UInt8 := dkwX8_chain_4 ++ dktX8_chain_5
def dkwX8_chain_3 : List UInt8 := [21, 5, 42, 180, 0, 7, 6, 46, 162, 0, 56, 42, 180, 0, 47, 21, 4, 46, 29, 160, 0, 39, 42]
abbrev dktX8_chain_3 : List UInt8 := dkwX8_chain_3 ++ dktX8_chain_4
def dkwX8_chain_2 : List UInt8 := [62, 29, 16, 10, 162, 0, 96, 3, 54, 4, 21, 4, 42, 180, 0, 7, 6, 46, 162, 0, 76, 3, 54, 5]
abbrev dktX8_chain_2 : List UInt8 := dkwX8_chain_2 ++ dktX8_chain_3
def dkwX8_chain_1 : List UInt8 := [162, 0, 16, 42, 180, 0, 47, 29, 2, 79, 132, 3, 1, 167, 255, 240, 42, 180, 0, 47, 27, 3, 79, 3]
abbrev dktX8_chain_1 : List UInt8 := dkwX8_chain_1 ++ dktX8_chain_2
def dkwX8_chain_0 : List UInt8 := [42, 42, 27, 28, 182, 1, 9, 181, 0, 50, 42, 180, 0, 50, 158, 0, 5, 3, 172, 3, 62, 29, 16, 10]
abbrev dktX8_chain_0 : List UInt8 := dkwX8_chain_0 ++ dktX8_chain_1
theorem dksX8_chain_0 : cX8_chain.data.toList.drop 0 = dktX8_chain_0 := by decide +kernel
theorem dksX8_chain_1 : cX8_chain.data.toList.drop 24 = dktX8_chain_1 := dk_seg dksX8_chain_0 24 rfl rfl
theorem dksX8_chain_2 : cX8_chain.data.toList.drop 48 = dktX8_chain_2 := dk_seg dksX8_chain_1 24 rfl rfl
theorem dksX8_chain_3 : cX8_chain.data.toList.drop 72 = dktX8_chain_3 := dk_seg dksX8_chain_2 24 rfl rfl
theorem dksX8_chain_4 : cX8_chain.data.toList.drop 95 = dktX8_chain_4 := dk_seg dksX8_chain_3 23 rfl rfl
theorem dksX8_chain_5 : cX8_chain.data.toList.drop 117 = dktX8_chain_5 := dk_seg dksX8_chain_4 22 rfl rfl
theorem dksX8_chain_6 : cX8_chain.data.toList.drop 139 = dktX8_chain_6 := dk_seg dksX8_chain_5 22 rfl rfl
theorem dX8_chain_0 : decode cX8_chain 0 = .ok (.aload_n 0, 1) := dk_42 (dk_at dksX8_chain_0 0 rfl rfl)
theorem dX8_chain_1 : decode cX8_chain 1 = .ok (.aload_n 0, 1) := dk_42 (dk_at dksX8_chain_0 1 rfl rfl)
theorem dX8_chain_2 : decode cX8_chain 2 = .ok (.iload_n 1, 1) := dk_27 (dk_at dksX8_chain_0 2 rfl rfl)
theorem dX8_chain_3 : decode cX8_chain 3 = .ok (.iload_n 2, 1) := dk_28 (dk_at dksX8_chain_0 3 rfl rfl)
theorem dX8_chain_4 : decode cX8_chain 4 = .ok (.invokevirtual 265, 3) := dk_182 1 9 (dk_at dksX8_chain_0 4 rfl rfl)
theorem dX8_chain_7 : decode cX8_chain 7 = .ok (.putfield 50, 3) := dk_181 0 50 (dk_at dksX8_chain_0 7 rfl rfl)
theorem dX8_chain_10 : decode cX8_chain 10 = .ok (.aload_n 0, 1) := dk_42 (dk_at dksX8_chain_0 10 rfl rfl)
theorem dX8_chain_11 : decode cX8_chain 11 = .ok (.getfield 50, 3) := dk_180 0 50 (dk_at dksX8_chain_0 11 rfl rfl)
theorem dX8_chain_14 : decode cX8_chain 14 = .ok (.ifCond .le 5, 3) := dk_158 0 5 (dk_at dksX8_chain_0 14 rfl rfl)
theorem dX8_chain_17 : decode cX8_chain 17 = .ok (.iconst 0, 1) := dk_3 (dk_at dksX8_chain_0 17 rfl rfl)
theorem dX8_chain_18 : decode cX8_chain 18 = .ok (.ireturn, 1) := dk_172 (dk_at dksX8_chain_0 18 rfl rfl)
theorem dX8_chain_19 : decode cX8_chain 19 = .ok (.iconst 0, 1) := dk_3 (dk_at dksX8_chain_0 19 rfl rfl)
theorem dX8_chain_20 : decode cX8_chain 20 = .ok (.istore_n 3, 1) := dk_62 (dk_at dksX8_chain_0 20 rfl rfl)
theorem dX8_chain_21 : decode cX8_chain 21 = .ok (.iload_n 3, 1) := dk_29 (dk_at dksX8_chain_0 21 rfl rfl)
theorem dX8_chain_22 : decode cX8_chain 22 = .ok (.bipush 10, 2) := dk_16 10 (dk_at dksX8_chain_0 22 rfl rfl)
theorem dX8_chain_24 : decode cX8_chain 24 = .ok (.if_icmp .ge 16, 3) := dk_162 0 16 (dk_at dksX8_chain_1 0 rfl rfl)
theorem dX8_chain_27 : decode cX8_chain 27 = .ok (.aload_n 0, 1) := dk_42 (dk_at dksX8_chain_1 3 rfl rfl)
theorem dX8_chain_28 : decode cX8_chain 28 = .ok (.getfield 47, 3) := dk_180 0 47 (dk_at dksX8_chain_1 4 rfl rfl)
theorem dX8_chain_31 : decode cX8_chain 31 = .ok (.iload_n 3, 1) := dk_29 (dk_at dksX8_chain_1 7 rfl rfl)
theorem dX8_chain_32 : decode cX8_chain 32 = .ok (.iconst (-1), 1) := dk_2 (dk_at dksX8_chain_1 8 rfl rfl)
theorem dX8_chain_33 : decode cX8_chain 33 = .ok (.iastore, 1) := dk_79 (dk_at dksX8_chain_1 9 rfl rfl)
theorem dX8_chain_34 : decode cX8_chain 34 = .ok (.iinc 3 1, 3) := dk_132 3 1 (dk_at dksX8_chain_1 10 rfl rfl)
theorem dX8_chain_37 : decode cX8_chain 37 = .ok (.goto (-16), 3) := dk_167 255 240 (dk_at dksX8_chain_1 13 rfl rfl)
theorem dX8_chain_40 : decode cX8_chain 40 = .ok (.aload_n 0, 1) := dk_42 (dk_at dksX8_chain_1 16 rfl rfl)
theorem dX8_chain_41 : decode cX8_chain 41 = .ok (.getfield 47, 3) := dk_180 0 47 (dk_at dksX8_chain_1 17 rfl rfl)
theorem dX8_chain_44 : decode cX8_chain 44 = .ok (.iload_n 1, 1) := dk_27 (dk_at dksX8_chain_1 20 rfl rfl)
theorem dX8_chain_45 : decode cX8_chain 45 = .ok (.iconst 0, 1) := dk_3 (dk_at dksX8_chain_1 21 rfl rfl)
theorem dX8_chain_46 : decode cX8_chain 46 = .ok (.iastore, 1) := dk_79 (dk_at dksX8_chain_1 22 rfl rfl)
theorem dX8_chain_47 : decode cX8_chain 47 = .ok (.iconst 0, 1) := dk_3 (dk_at dksX8_chain_1 23 rfl rfl)
theorem dX8_chain_48 : decode cX8_chain 48 = .ok (.istore_n 3, 1) := dk_62 (dk_at dksX8_chain_2 0 rfl rfl)
theorem dX8_chain_49 : decode cX8_chain 49 = .ok (.iload_n 3, 1) := dk_29 (dk_at dksX8_chain_2 1 rfl rfl)
theorem dX8_chain_50 : decode cX8_chain 50 = .ok (.bipush 10, 2) := dk_16 10 (dk_at dksX8_chain_2 2 rfl rfl)
theorem dX8_chain_52 : decode cX8_chain 52 = .ok (.if_icmp .ge 96, 3) := dk_162 0 96 (dk_at dksX8_chain_2 4 rfl rfl)
theorem dX8_chain_55 : decode cX8_chain 55 = .ok (.iconst 0, 1) := dk_3 (dk_at dksX8_chain_2 7 rfl rfl)
theorem dX8_chain_56 : decode cX8_chain 56 = .ok (.istore 4, 2) := dk_54 4 (dk_at dksX8_chain_2 8 rfl rfl)
theorem dX8_chain_58 : decode cX8_chain 58 = .ok (.iload 4, 2) := dk_21 4 (dk_at dksX8_chain_2 10 rfl rfl)
theorem dX8_chain_60 : decode cX8_chain 60 = .ok (.aload_n 0, 1) := dk_42 (dk_at dksX8_chain_2 12 rfl rfl)
theorem dX8_chain_61 : decode cX8_chain 61 = .ok (.getfield 7, 3) := dk_180 0 7 (dk_at dksX8_chain_2 13 rfl rfl)
theorem dX8_chain_64 : decode cX8_chain 64 = .ok (.iconst 3, 1) := dk_6 (dk_at dksX8_chain_2 16 rfl rfl)
theorem dX8_chain_65 : decode cX8_chain 65 = .ok (.iaload, 1) := dk_46 (dk_at dksX8_chain_2 17 rfl rfl)
theorem dX8_chain_66 : decode cX8_chain 66 = .ok (.if_icmp .ge 76, 3) := dk_162 0 76 (dk_at dksX8_chain_2 18 rfl rfl)
theorem dX8_chain_69 : decode cX8_chain 69 = .ok (.iconst 0, 1) := dk_3 (dk_at dksX8_chain_2 21 rfl rfl)
theorem dX8_chain_70 : decode cX8_chain 70 = .ok (.istore 5, 2) := dk_54 5 (dk_at dksX8_chain_2 22 rfl rfl)
theorem dX8_chain_72 : decode cX8_chain 72 = .ok (.iload 5, 2) := dk_21 5 (dk_at dksX8_chain_3 0 rfl rfl)
theorem dX8_chain_74 : decode cX8_chain 74 = .ok (.aload_n 0, 1) := dk_42 (dk_at dksX8_chain_3 2 rfl rfl)
theorem dX8_chain_75 : decode cX8_chain 75 = .ok (.getfield 7, 3) := dk_180 0 7 (dk_at dksX8_chain_3 3 rfl rfl)
theorem dX8_chain_78 : decode cX8_chain 78 = .ok (.iconst 3, 1) := dk_6 (dk_at dksX8_chain_3 6 rfl rfl)
theorem dX8_chain_79 : decode cX8_chain 79 = .ok (.iaload, 1) := dk_46 (dk_at dksX8_chain_3 7 rfl rfl)
theorem dX8_chain_80 : decode cX8_chain 80 = .ok (.if_icmp .ge 56, 3) := dk_162 0 56 (dk_at dksX8_chain_3 8 rfl rfl)
theorem dX8_chain_83 : decode cX8_chain 83 = .ok (.aload_n 0, 1) := dk_42 (dk_at dksX8_chain_3 11 rfl rfl)
theorem dX8_chain_84 : decode cX8_chain 84 = .ok (.getfield 47, 3) := dk_180 0 47 (dk_at dksX8_chain_3 12 rfl rfl)
theorem dX8_chain_87 : decode cX8_chain 87 = .ok (.iload 4, 2) := dk_21 4 (dk_at dksX8_chain_3 15 rfl rfl)
theorem dX8_chain_89 : decode cX8_chain 89 = .ok (.iaload, 1) := dk_46 (dk_at dksX8_chain_3 17 rfl rfl)
theorem dX8_chain_90 : decode cX8_chain 90 = .ok (.iload_n 3, 1) := dk_29 (dk_at dksX8_chain_3 18 rfl rfl)
theorem dX8_chain_91 : decode cX8_chain 91 = .ok (.if_icmp .ne 39, 3) := dk_160 0 39 (dk_at dksX8_chain_3 19 rfl rfl)
theorem dX8_chain_94 : decode cX8_chain 94 = .ok (.aload_n 0, 1) := dk_42 (dk_at dksX8_chain_3 22 rfl rfl)
theorem dX8_chain_95 : decode cX8_chain 95 = .ok (.getfield 47, 3) := dk_180 0 47 (dk_at dksX8_chain_4 0 rfl rfl)
theorem dX8_chain_98 : decode cX8_chain 98 = .ok (.iload 5, 2) := dk_21 5 (dk_at dksX8_chain_4 3 rfl rfl)
theorem dX8_chain_100 : decode cX8_chain 100 = .ok (.iaload, 1) := dk_46 (dk_at dksX8_chain_4 5 rfl rfl)
theorem dX8_chain_101 : decode cX8_chain 101 = .ok (.iconst (-1), 1) := dk_2 (dk_at dksX8_chain_4 6 rfl rfl)
theorem dX8_chain_102 : decode cX8_chain 102 = .ok (.if_icmp .ne 28, 3) := dk_160 0 28 (dk_at dksX8_chain_4 7 rfl rfl)
theorem dX8_chain_105 : decode cX8_chain 105 = .ok (.aload_n 0, 1) := dk_42 (dk_at dksX8_chain_4 10 rfl rfl)
theorem dX8_chain_106 : decode cX8_chain 106 = .ok (.iload 4, 2) := dk_21 4 (dk_at dksX8_chain_4 11 rfl rfl)
theorem dX8_chain_108 : decode cX8_chain 108 = .ok (.iconst 5, 1) := dk_8 (dk_at dksX8_chain_4 13 rfl rfl)
theorem dX8_chain_109 : decode cX8_chain 109 = .ok (.invokevirtual 57, 3) := dk_182 0 57 (dk_at dksX8_chain_4 14 rfl rfl)
theorem dX8_chain_112 : decode cX8_chain 112 = .ok (.iload 5, 2) := dk_21 5 (dk_at dksX8_chain_4 17 rfl rfl)
theorem dX8_chain_114 : decode cX8_chain 114 = .ok (.invokestatic 107, 3) := dk_184 0 107 (dk_at dksX8_chain_4 19 rfl rfl)
theorem dX8_chain_117 : decode cX8_chain 117 = .ok (.ifCond .eq 13, 3) := dk_153 0 13 (dk_at dksX8_chain_5 0 rfl rfl)
theorem dX8_chain_120 : decode cX8_chain 120 = .ok (.aload_n 0, 1) := dk_42 (dk_at dksX8_chain_5 3 rfl rfl)
theorem dX8_chain_121 : decode cX8_chain 121 = .ok (.getfield 47, 3) := dk_180 0 47 (dk_at dksX8_chain_5 4 rfl rfl)
theorem dX8_chain_124 : decode cX8_chain 124 = .ok (.iload 5, 2) := dk_21 5 (dk_at dksX8_chain_5 7 rfl rfl)
theorem dX8_chain_126 : decode cX8_chain 126 = .ok (.iload_n 3, 1) := dk_29 (dk_at dksX8_chain_5 9 rfl rfl)
theorem dX8_chain_127 : decode cX8_chain 127 = .ok (.iconst 1, 1) := dk_4 (dk_at dksX8_chain_5 10 rfl rfl)
theorem dX8_chain_128 : decode cX8_chain 128 = .ok (.iadd, 1) := dk_96 (dk_at dksX8_chain_5 11 rfl rfl)
theorem dX8_chain_129 : decode cX8_chain 129 = .ok (.iastore, 1) := dk_79 (dk_at dksX8_chain_5 12 rfl rfl)
theorem dX8_chain_130 : decode cX8_chain 130 = .ok (.iinc 5 1, 3) := dk_132 5 1 (dk_at dksX8_chain_5 13 rfl rfl)
theorem dX8_chain_133 : decode cX8_chain 133 = .ok (.goto (-61), 3) := dk_167 255 195 (dk_at dksX8_chain_5 16 rfl rfl)
theorem dX8_chain_136 : decode cX8_chain 136 = .ok (.iinc 4 1, 3) := dk_132 4 1 (dk_at dksX8_chain_5 19 rfl rfl)
theorem dX8_chain_139 : decode cX8_chain 139 = .ok (.goto (-81), 3) := dk_167 255 175 (dk_at dksX8_chain_6 0 rfl rfl)
theorem dX8_chain_142 : decode cX8_chain 142 = .ok (.iinc 3 1, 3) := dk_132 3 1 (dk_at dksX8_chain_6 3 rfl rfl)
theorem dX8_chain_145 : decode cX8_chain 145 = .ok (.goto (-96), 3) := dk_167 255 160 (dk_at dksX8_chain_6 6 rfl rfl)
theorem dX8_chain_148 : decode cX8_chain 148 = .ok (.aload_n 0, 1) := dk_42 (dk_at dksX8_chain_6 9 rfl rfl)
theorem dX8_chain_149 : decode cX8_chain 149 = .ok (.getfield 47, 3) := dk_180 0 47 (dk_at dksX8_chain_6 10 rfl rfl)
theorem dX8_chain_152 : decode cX8_chain 152 = .ok (.iload_n 2, 1) := dk_28 (dk_at dksX8_chain_6 13 rfl rfl)
theorem dX8_chain_153 : decode cX8_chain 153 = .ok (.iaload, 1) := dk_46 (dk_at dksX8_chain_6 14 rfl rfl)
theorem dX8_chain_154 : decode cX8_chain 154 = .ok (.ireturn, 1) := dk_172 (dk_at dksX8_chain_6 15 rfl rfl)
abbrev cX8_hears_2 : ByteArray := prog_21_method_118_code
def yX8_hears_2 : MethodName := ⟨RX8, "hears", "(II)I"⟩
def dkwX8_hears_2_6 : List UInt8 := [167, 255, 162, 42, 27, 8, 182, 0, 57, 62, 42, 182, 0, 179, 29, 172]
abbrev dktX8_hears_2_6 : List UInt8 := dkwX8_hears_2_6 ++ []
def dkwX8_hears_2_5 : List UInt8 := [21, 5, 182, 1, 35, 54, 6, 132, 5, 1, 167, 255, 199, 132, 4, 1, 167, 255, 176, 132, 3, 1]
abbrev dktX8_hears_2_5 : List UInt8 := dkwX8_hears_2_5 ++ dktX8_hears_2_6
def dkwX8_hears_2_4 : List UInt8 := [153, 0, 31, 42, 21, 5, 8, 182, 0, 57, 21, 4, 184, 0, 107, 154, 0, 6, 167, 0, 13, 42, 21, 4]
abbrev dktX8_hears_2_4 : List UInt8 := dkwX8_hears_2_4 ++ dktX8_hears_2_5
def dkwX8_hears_2_3 : List UInt8 := [21, 5, 42, 180, 0, 7, 6, 46, 162, 0, 52, 42, 21, 4, 8, 182, 0, 57, 21, 5, 184, 0, 107]
abbrev dktX8_hears_2_3 : List UInt8 := dkwX8_hears_2_3 ++ dktX8_hears_2_4
def dkwX8_hears_2_2 : List UInt8 := [162, 0, 95, 3, 54, 4, 21, 4, 42, 180, 0, 7, 6, 46, 162, 0, 75, 21, 4, 4, 96, 54, 5]
abbrev dktX8_hears_2_2 : List UInt8 := dkwX8_hears_2_2 ++ dktX8_hears_2_3
def dkwX8_hears_2_1 : List UInt8 := [167, 0, 4, 3, 181, 0, 50, 42, 180, 0, 50, 158, 0, 5, 3, 172, 42, 182, 0, 169, 3, 62, 29, 28]
abbrev dktX8_hears_2_1 : List UInt8 := dkwX8_hears_2_1 ++ dktX8_hears_2_2
def dkwX8_hears_2_0 : List UInt8 := [42, 42, 27, 182, 0, 250, 154, 0, 7, 4, 167, 0, 18, 28, 3, 16, 20, 184, 0, 53, 154, 0, 7, 5]
abbrev dktX8_hears_2_0 : List UInt8 := dkwX8_hears_2_0 ++ dktX8_hears_2_1
theorem dksX8_hears_2_0 : cX8_hears_2.data.toList.drop 0 = dktX8_hears_2_0 := by decide +kernel
theorem dksX8_hears_2_1 : cX8_hears_2.data.toList.drop 24 = dktX8_hears_2_1 := dk_seg dksX8_hears_2_0 24 rfl rfl
theorem dksX8_hears_2_2 : cX8_hears_2.data.toList.drop 48 = dktX8_hears_2_2 := dk_seg dksX8_hears_2_1 24 rfl rfl
theorem dksX8_hears_2_3 : cX8_hears_2.data.toList.drop 71 = dktX8_hears_2_3 := dk_seg dksX8_hears_2_2 23 rfl rfl
theorem dksX8_hears_2_4 : cX8_hears_2.data.toList.drop 94 = dktX8_hears_2_4 := dk_seg dksX8_hears_2_3 23 rfl rfl
theorem dksX8_hears_2_5 : cX8_hears_2.data.toList.drop 118 = dktX8_hears_2_5 := dk_seg dksX8_hears_2_4 24 rfl rfl
theorem dksX8_hears_2_6 : cX8_hears_2.data.toList.drop 140 = dktX8_hears_2_6 := dk_seg dksX8_hears_2_5 22 rfl rfl
theorem dX8_hears_2_0 : decode cX8_hears_2 0 = .ok (.aload_n 0, 1) := dk_42 (dk_at dksX8_hears_2_0 0 rfl rfl)
theorem dX8_hears_2_1 : decode cX8_hears_2 1 = .ok (.aload_n 0, 1) := dk_42 (dk_at dksX8_hears_2_0 1 rfl rfl)
theorem dX8_hears_2_2 : decode cX8_hears_2 2 = .ok (.iload_n 1, 1) := dk_27 (dk_at dksX8_hears_2_0 2 rfl rfl)
theorem dX8_hears_2_3 : decode cX8_hears_2 3 = .ok (.invokevirtual 250, 3) := dk_182 0 250 (dk_at dksX8_hears_2_0 3 rfl rfl)
theorem dX8_hears_2_6 : decode cX8_hears_2 6 = .ok (.ifCond .ne 7, 3) := dk_154 0 7 (dk_at dksX8_hears_2_0 6 rfl rfl)
theorem dX8_hears_2_9 : decode cX8_hears_2 9 = .ok (.iconst 1, 1) := dk_4 (dk_at dksX8_hears_2_0 9 rfl rfl)
theorem dX8_hears_2_10 : decode cX8_hears_2 10 = .ok (.goto 18, 3) := dk_167 0 18 (dk_at dksX8_hears_2_0 10 rfl rfl)
theorem dX8_hears_2_13 : decode cX8_hears_2 13 = .ok (.iload_n 2, 1) := dk_28 (dk_at dksX8_hears_2_0 13 rfl rfl)
theorem dX8_hears_2_14 : decode cX8_hears_2 14 = .ok (.iconst 0, 1) := dk_3 (dk_at dksX8_hears_2_0 14 rfl rfl)
theorem dX8_hears_2_15 : decode cX8_hears_2 15 = .ok (.bipush 20, 2) := dk_16 20 (dk_at dksX8_hears_2_0 15 rfl rfl)
theorem dX8_hears_2_17 : decode cX8_hears_2 17 = .ok (.invokestatic 53, 3) := dk_184 0 53 (dk_at dksX8_hears_2_0 17 rfl rfl)
theorem dX8_hears_2_20 : decode cX8_hears_2 20 = .ok (.ifCond .ne 7, 3) := dk_154 0 7 (dk_at dksX8_hears_2_0 20 rfl rfl)
theorem dX8_hears_2_23 : decode cX8_hears_2 23 = .ok (.iconst 2, 1) := dk_5 (dk_at dksX8_hears_2_0 23 rfl rfl)
theorem dX8_hears_2_24 : decode cX8_hears_2 24 = .ok (.goto 4, 3) := dk_167 0 4 (dk_at dksX8_hears_2_1 0 rfl rfl)
theorem dX8_hears_2_27 : decode cX8_hears_2 27 = .ok (.iconst 0, 1) := dk_3 (dk_at dksX8_hears_2_1 3 rfl rfl)
theorem dX8_hears_2_28 : decode cX8_hears_2 28 = .ok (.putfield 50, 3) := dk_181 0 50 (dk_at dksX8_hears_2_1 4 rfl rfl)
theorem dX8_hears_2_31 : decode cX8_hears_2 31 = .ok (.aload_n 0, 1) := dk_42 (dk_at dksX8_hears_2_1 7 rfl rfl)
theorem dX8_hears_2_32 : decode cX8_hears_2 32 = .ok (.getfield 50, 3) := dk_180 0 50 (dk_at dksX8_hears_2_1 8 rfl rfl)
theorem dX8_hears_2_35 : decode cX8_hears_2 35 = .ok (.ifCond .le 5, 3) := dk_158 0 5 (dk_at dksX8_hears_2_1 11 rfl rfl)
theorem dX8_hears_2_38 : decode cX8_hears_2 38 = .ok (.iconst 0, 1) := dk_3 (dk_at dksX8_hears_2_1 14 rfl rfl)
theorem dX8_hears_2_39 : decode cX8_hears_2 39 = .ok (.ireturn, 1) := dk_172 (dk_at dksX8_hears_2_1 15 rfl rfl)
theorem dX8_hears_2_40 : decode cX8_hears_2 40 = .ok (.aload_n 0, 1) := dk_42 (dk_at dksX8_hears_2_1 16 rfl rfl)
theorem dX8_hears_2_41 : decode cX8_hears_2 41 = .ok (.invokevirtual 169, 3) := dk_182 0 169 (dk_at dksX8_hears_2_1 17 rfl rfl)
theorem dX8_hears_2_44 : decode cX8_hears_2 44 = .ok (.iconst 0, 1) := dk_3 (dk_at dksX8_hears_2_1 20 rfl rfl)
theorem dX8_hears_2_45 : decode cX8_hears_2 45 = .ok (.istore_n 3, 1) := dk_62 (dk_at dksX8_hears_2_1 21 rfl rfl)
theorem dX8_hears_2_46 : decode cX8_hears_2 46 = .ok (.iload_n 3, 1) := dk_29 (dk_at dksX8_hears_2_1 22 rfl rfl)
theorem dX8_hears_2_47 : decode cX8_hears_2 47 = .ok (.iload_n 2, 1) := dk_28 (dk_at dksX8_hears_2_1 23 rfl rfl)
theorem dX8_hears_2_48 : decode cX8_hears_2 48 = .ok (.if_icmp .ge 95, 3) := dk_162 0 95 (dk_at dksX8_hears_2_2 0 rfl rfl)
theorem dX8_hears_2_51 : decode cX8_hears_2 51 = .ok (.iconst 0, 1) := dk_3 (dk_at dksX8_hears_2_2 3 rfl rfl)
theorem dX8_hears_2_52 : decode cX8_hears_2 52 = .ok (.istore 4, 2) := dk_54 4 (dk_at dksX8_hears_2_2 4 rfl rfl)
theorem dX8_hears_2_54 : decode cX8_hears_2 54 = .ok (.iload 4, 2) := dk_21 4 (dk_at dksX8_hears_2_2 6 rfl rfl)
theorem dX8_hears_2_56 : decode cX8_hears_2 56 = .ok (.aload_n 0, 1) := dk_42 (dk_at dksX8_hears_2_2 8 rfl rfl)
theorem dX8_hears_2_57 : decode cX8_hears_2 57 = .ok (.getfield 7, 3) := dk_180 0 7 (dk_at dksX8_hears_2_2 9 rfl rfl)
theorem dX8_hears_2_60 : decode cX8_hears_2 60 = .ok (.iconst 3, 1) := dk_6 (dk_at dksX8_hears_2_2 12 rfl rfl)
theorem dX8_hears_2_61 : decode cX8_hears_2 61 = .ok (.iaload, 1) := dk_46 (dk_at dksX8_hears_2_2 13 rfl rfl)
theorem dX8_hears_2_62 : decode cX8_hears_2 62 = .ok (.if_icmp .ge 75, 3) := dk_162 0 75 (dk_at dksX8_hears_2_2 14 rfl rfl)
theorem dX8_hears_2_65 : decode cX8_hears_2 65 = .ok (.iload 4, 2) := dk_21 4 (dk_at dksX8_hears_2_2 17 rfl rfl)
theorem dX8_hears_2_67 : decode cX8_hears_2 67 = .ok (.iconst 1, 1) := dk_4 (dk_at dksX8_hears_2_2 19 rfl rfl)
theorem dX8_hears_2_68 : decode cX8_hears_2 68 = .ok (.iadd, 1) := dk_96 (dk_at dksX8_hears_2_2 20 rfl rfl)
theorem dX8_hears_2_69 : decode cX8_hears_2 69 = .ok (.istore 5, 2) := dk_54 5 (dk_at dksX8_hears_2_2 21 rfl rfl)
theorem dX8_hears_2_71 : decode cX8_hears_2 71 = .ok (.iload 5, 2) := dk_21 5 (dk_at dksX8_hears_2_3 0 rfl rfl)
theorem dX8_hears_2_73 : decode cX8_hears_2 73 = .ok (.aload_n 0, 1) := dk_42 (dk_at dksX8_hears_2_3 2 rfl rfl)
theorem dX8_hears_2_74 : decode cX8_hears_2 74 = .ok (.getfield 7, 3) := dk_180 0 7 (dk_at dksX8_hears_2_3 3 rfl rfl)
theorem dX8_hears_2_77 : decode cX8_hears_2 77 = .ok (.iconst 3, 1) := dk_6 (dk_at dksX8_hears_2_3 6 rfl rfl)
theorem dX8_hears_2_78 : decode cX8_hears_2 78 = .ok (.iaload, 1) := dk_46 (dk_at dksX8_hears_2_3 7 rfl rfl)
theorem dX8_hears_2_79 : decode cX8_hears_2 79 = .ok (.if_icmp .ge 52, 3) := dk_162 0 52 (dk_at dksX8_hears_2_3 8 rfl rfl)
theorem dX8_hears_2_82 : decode cX8_hears_2 82 = .ok (.aload_n 0, 1) := dk_42 (dk_at dksX8_hears_2_3 11 rfl rfl)
theorem dX8_hears_2_83 : decode cX8_hears_2 83 = .ok (.iload 4, 2) := dk_21 4 (dk_at dksX8_hears_2_3 12 rfl rfl)
theorem dX8_hears_2_85 : decode cX8_hears_2 85 = .ok (.iconst 5, 1) := dk_8 (dk_at dksX8_hears_2_3 14 rfl rfl)
theorem dX8_hears_2_86 : decode cX8_hears_2 86 = .ok (.invokevirtual 57, 3) := dk_182 0 57 (dk_at dksX8_hears_2_3 15 rfl rfl)
theorem dX8_hears_2_89 : decode cX8_hears_2 89 = .ok (.iload 5, 2) := dk_21 5 (dk_at dksX8_hears_2_3 18 rfl rfl)
theorem dX8_hears_2_91 : decode cX8_hears_2 91 = .ok (.invokestatic 107, 3) := dk_184 0 107 (dk_at dksX8_hears_2_3 20 rfl rfl)
theorem dX8_hears_2_94 : decode cX8_hears_2 94 = .ok (.ifCond .eq 31, 3) := dk_153 0 31 (dk_at dksX8_hears_2_4 0 rfl rfl)
theorem dX8_hears_2_97 : decode cX8_hears_2 97 = .ok (.aload_n 0, 1) := dk_42 (dk_at dksX8_hears_2_4 3 rfl rfl)
theorem dX8_hears_2_98 : decode cX8_hears_2 98 = .ok (.iload 5, 2) := dk_21 5 (dk_at dksX8_hears_2_4 4 rfl rfl)
theorem dX8_hears_2_100 : decode cX8_hears_2 100 = .ok (.iconst 5, 1) := dk_8 (dk_at dksX8_hears_2_4 6 rfl rfl)
theorem dX8_hears_2_101 : decode cX8_hears_2 101 = .ok (.invokevirtual 57, 3) := dk_182 0 57 (dk_at dksX8_hears_2_4 7 rfl rfl)
theorem dX8_hears_2_104 : decode cX8_hears_2 104 = .ok (.iload 4, 2) := dk_21 4 (dk_at dksX8_hears_2_4 10 rfl rfl)
theorem dX8_hears_2_106 : decode cX8_hears_2 106 = .ok (.invokestatic 107, 3) := dk_184 0 107 (dk_at dksX8_hears_2_4 12 rfl rfl)
theorem dX8_hears_2_109 : decode cX8_hears_2 109 = .ok (.ifCond .ne 6, 3) := dk_154 0 6 (dk_at dksX8_hears_2_4 15 rfl rfl)
theorem dX8_hears_2_112 : decode cX8_hears_2 112 = .ok (.goto 13, 3) := dk_167 0 13 (dk_at dksX8_hears_2_4 18 rfl rfl)
theorem dX8_hears_2_115 : decode cX8_hears_2 115 = .ok (.aload_n 0, 1) := dk_42 (dk_at dksX8_hears_2_4 21 rfl rfl)
theorem dX8_hears_2_116 : decode cX8_hears_2 116 = .ok (.iload 4, 2) := dk_21 4 (dk_at dksX8_hears_2_4 22 rfl rfl)
theorem dX8_hears_2_118 : decode cX8_hears_2 118 = .ok (.iload 5, 2) := dk_21 5 (dk_at dksX8_hears_2_5 0 rfl rfl)
theorem dX8_hears_2_120 : decode cX8_hears_2 120 = .ok (.invokevirtual 291, 3) := dk_182 1 35 (dk_at dksX8_hears_2_5 2 rfl rfl)
theorem dX8_hears_2_123 : decode cX8_hears_2 123 = .ok (.istore 6, 2) := dk_54 6 (dk_at dksX8_hears_2_5 5 rfl rfl)
theorem dX8_hears_2_125 : decode cX8_hears_2 125 = .ok (.iinc 5 1, 3) := dk_132 5 1 (dk_at dksX8_hears_2_5 7 rfl rfl)
theorem dX8_hears_2_128 : decode cX8_hears_2 128 = .ok (.goto (-57), 3) := dk_167 255 199 (dk_at dksX8_hears_2_5 10 rfl rfl)
theorem dX8_hears_2_131 : decode cX8_hears_2 131 = .ok (.iinc 4 1, 3) := dk_132 4 1 (dk_at dksX8_hears_2_5 13 rfl rfl)
theorem dX8_hears_2_134 : decode cX8_hears_2 134 = .ok (.goto (-80), 3) := dk_167 255 176 (dk_at dksX8_hears_2_5 16 rfl rfl)
theorem dX8_hears_2_137 : decode cX8_hears_2 137 = .ok (.iinc 3 1, 3) := dk_132 3 1 (dk_at dksX8_hears_2_5 19 rfl rfl)
theorem dX8_hears_2_140 : decode cX8_hears_2 140 = .ok (.goto (-94), 3) := dk_167 255 162 (dk_at dksX8_hears_2_6 0 rfl rfl)
theorem dX8_hears_2_143 : decode cX8_hears_2 143 = .ok (.aload_n 0, 1) := dk_42 (dk_at dksX8_hears_2_6 3 rfl rfl)
theorem dX8_hears_2_144 : decode cX8_hears_2 144 = .ok (.iload_n 1, 1) := dk_27 (dk_at dksX8_hears_2_6 4 rfl rfl)
theorem dX8_hears_2_145 : decode cX8_hears_2 145 = .ok (.iconst 5, 1) := dk_8 (dk_at dksX8_hears_2_6 5 rfl rfl)
theorem dX8_hears_2_146 : decode cX8_hears_2 146 = .ok (.invokevirtual 57, 3) := dk_182 0 57 (dk_at dksX8_hears_2_6 6 rfl rfl)
theorem dX8_hears_2_149 : decode cX8_hears_2 149 = .ok (.istore_n 3, 1) := dk_62 (dk_at dksX8_hears_2_6 9 rfl rfl)
theorem dX8_hears_2_150 : decode cX8_hears_2 150 = .ok (.aload_n 0, 1) := dk_42 (dk_at dksX8_hears_2_6 10 rfl rfl)
theorem dX8_hears_2_151 : decode cX8_hears_2 151 = .ok (.invokevirtual 179, 3) := dk_182 0 179 (dk_at dksX8_hears_2_6 11 rfl rfl)
theorem dX8_hears_2_154 : decode cX8_hears_2 154 = .ok (.iload_n 3, 1) := dk_29 (dk_at dksX8_hears_2_6 14 rfl rfl)
theorem dX8_hears_2_155 : decode cX8_hears_2 155 = .ok (.ireturn, 1) := dk_172 (dk_at dksX8_hears_2_6 15 rfl rfl)
abbrev cX8_trial : ByteArray := prog_21_method_120_code
def yX8_trial : MethodName := ⟨RX8, "trial", "(I)I"⟩
def dkwX8_trial_1 : List UInt8 := [158, 0, 5, 3, 172, 42, 182, 0, 169, 42, 27, 182, 1, 119, 172]
abbrev dktX8_trial_1 : List UInt8 := dkwX8_trial_1 ++ []
def dkwX8_trial_0 : List UInt8 := [42, 27, 3, 16, 30, 184, 0, 53, 154, 0, 7, 4, 167, 0, 4, 3, 181, 0, 50, 42, 180, 0, 50]
abbrev dktX8_trial_0 : List UInt8 := dkwX8_trial_0 ++ dktX8_trial_1
theorem dksX8_trial_0 : cX8_trial.data.toList.drop 0 = dktX8_trial_0 := by decide +kernel
theorem dksX8_trial_1 : cX8_trial.data.toList.drop 23 = dktX8_trial_1 := dk_seg dksX8_trial_0 23 rfl rfl
theorem dX8_trial_0 : decode cX8_trial 0 = .ok (.aload_n 0, 1) := dk_42 (dk_at dksX8_trial_0 0 rfl rfl)
theorem dX8_trial_1 : decode cX8_trial 1 = .ok (.iload_n 1, 1) := dk_27 (dk_at dksX8_trial_0 1 rfl rfl)
theorem dX8_trial_2 : decode cX8_trial 2 = .ok (.iconst 0, 1) := dk_3 (dk_at dksX8_trial_0 2 rfl rfl)
theorem dX8_trial_3 : decode cX8_trial 3 = .ok (.bipush 30, 2) := dk_16 30 (dk_at dksX8_trial_0 3 rfl rfl)
theorem dX8_trial_5 : decode cX8_trial 5 = .ok (.invokestatic 53, 3) := dk_184 0 53 (dk_at dksX8_trial_0 5 rfl rfl)
theorem dX8_trial_8 : decode cX8_trial 8 = .ok (.ifCond .ne 7, 3) := dk_154 0 7 (dk_at dksX8_trial_0 8 rfl rfl)
theorem dX8_trial_11 : decode cX8_trial 11 = .ok (.iconst 1, 1) := dk_4 (dk_at dksX8_trial_0 11 rfl rfl)
theorem dX8_trial_12 : decode cX8_trial 12 = .ok (.goto 4, 3) := dk_167 0 4 (dk_at dksX8_trial_0 12 rfl rfl)
theorem dX8_trial_15 : decode cX8_trial 15 = .ok (.iconst 0, 1) := dk_3 (dk_at dksX8_trial_0 15 rfl rfl)
theorem dX8_trial_16 : decode cX8_trial 16 = .ok (.putfield 50, 3) := dk_181 0 50 (dk_at dksX8_trial_0 16 rfl rfl)
theorem dX8_trial_19 : decode cX8_trial 19 = .ok (.aload_n 0, 1) := dk_42 (dk_at dksX8_trial_0 19 rfl rfl)
theorem dX8_trial_20 : decode cX8_trial 20 = .ok (.getfield 50, 3) := dk_180 0 50 (dk_at dksX8_trial_0 20 rfl rfl)
theorem dX8_trial_23 : decode cX8_trial 23 = .ok (.ifCond .le 5, 3) := dk_158 0 5 (dk_at dksX8_trial_1 0 rfl rfl)
theorem dX8_trial_26 : decode cX8_trial 26 = .ok (.iconst 0, 1) := dk_3 (dk_at dksX8_trial_1 3 rfl rfl)
theorem dX8_trial_27 : decode cX8_trial 27 = .ok (.ireturn, 1) := dk_172 (dk_at dksX8_trial_1 4 rfl rfl)
theorem dX8_trial_28 : decode cX8_trial 28 = .ok (.aload_n 0, 1) := dk_42 (dk_at dksX8_trial_1 5 rfl rfl)
theorem dX8_trial_29 : decode cX8_trial 29 = .ok (.invokevirtual 169, 3) := dk_182 0 169 (dk_at dksX8_trial_1 6 rfl rfl)
theorem dX8_trial_32 : decode cX8_trial 32 = .ok (.aload_n 0, 1) := dk_42 (dk_at dksX8_trial_1 9 rfl rfl)
theorem dX8_trial_33 : decode cX8_trial 33 = .ok (.iload_n 1, 1) := dk_27 (dk_at dksX8_trial_1 10 rfl rfl)
theorem dX8_trial_34 : decode cX8_trial 34 = .ok (.invokevirtual 375, 3) := dk_182 1 119 (dk_at dksX8_trial_1 11 rfl rfl)
theorem dX8_trial_37 : decode cX8_trial 37 = .ok (.ireturn, 1) := dk_172 (dk_at dksX8_trial_1 14 rfl rfl)
abbrev cX8_tries : ByteArray := prog_21_method_119_code
def yX8_tries : MethodName := ⟨RX8, "tries", "(I)I"⟩
def dkwX8_tries_0 : List UInt8 := [42, 27, 182, 1, 58, 61, 42, 182, 1, 61, 184, 0, 242, 62, 42, 182, 0, 179, 29, 172]
abbrev dktX8_tries_0 : List UInt8 := dkwX8_tries_0 ++ []
theorem dksX8_tries_0 : cX8_tries.data.toList.drop 0 = dktX8_tries_0 := by decide +kernel
theorem dX8_tries_0 : decode cX8_tries 0 = .ok (.aload_n 0, 1) := dk_42 (dk_at dksX8_tries_0 0 rfl rfl)
theorem dX8_tries_1 : decode cX8_tries 1 = .ok (.iload_n 1, 1) := dk_27 (dk_at dksX8_tries_0 1 rfl rfl)
theorem dX8_tries_2 : decode cX8_tries 2 = .ok (.invokevirtual 314, 3) := dk_182 1 58 (dk_at dksX8_tries_0 2 rfl rfl)
theorem dX8_tries_5 : decode cX8_tries 5 = .ok (.istore_n 2, 1) := dk_61 (dk_at dksX8_tries_0 5 rfl rfl)
theorem dX8_tries_6 : decode cX8_tries 6 = .ok (.aload_n 0, 1) := dk_42 (dk_at dksX8_tries_0 6 rfl rfl)
theorem dX8_tries_7 : decode cX8_tries 7 = .ok (.invokevirtual 317, 3) := dk_182 1 61 (dk_at dksX8_tries_0 7 rfl rfl)
theorem dX8_tries_10 : decode cX8_tries 10 = .ok (.invokestatic 242, 3) := dk_184 0 242 (dk_at dksX8_tries_0 10 rfl rfl)
theorem dX8_tries_13 : decode cX8_tries 13 = .ok (.istore_n 3, 1) := dk_62 (dk_at dksX8_tries_0 13 rfl rfl)
theorem dX8_tries_14 : decode cX8_tries 14 = .ok (.aload_n 0, 1) := dk_42 (dk_at dksX8_tries_0 14 rfl rfl)
theorem dX8_tries_15 : decode cX8_tries 15 = .ok (.invokevirtual 179, 3) := dk_182 0 179 (dk_at dksX8_tries_0 15 rfl rfl)
theorem dX8_tries_18 : decode cX8_tries 18 = .ok (.iload_n 3, 1) := dk_29 (dk_at dksX8_tries_0 18 rfl rfl)
theorem dX8_tries_19 : decode cX8_tries 19 = .ok (.ireturn, 1) := dk_172 (dk_at dksX8_tries_0 19 rfl rfl)
abbrev cX8_span : ByteArray := prog_21_method_121_code
def yX8_span : MethodName := ⟨RX8, "span", "(IZ)I"⟩
def dkwX8_span_4 : List UInt8 := [132, 4, 1, 167, 255, 200, 29, 172]
abbrev dktX8_span_4 : List UInt8 := dkwX8_span_4 ++ []
def dkwX8_span_3 : List UInt8 := [167, 0, 22, 28, 153, 0, 12, 29, 21, 5, 184, 0, 150, 167, 0, 9, 29, 21, 5, 184, 1, 16, 62]
abbrev dktX8_span_3 : List UInt8 := dkwX8_span_3 ++ dktX8_span_4
def dkwX8_span_2 : List UInt8 := [180, 0, 7, 16, 9, 21, 4, 79, 42, 27, 182, 1, 119, 54, 5, 29, 2, 160, 0, 8, 21, 5]
abbrev dktX8_span_2 : List UInt8 := dkwX8_span_2 ++ dktX8_span_3
def dkwX8_span_1 : List UInt8 := [158, 0, 5, 3, 172, 42, 182, 0, 169, 2, 62, 4, 54, 4, 21, 4, 16, 6, 163, 0, 55, 42]
abbrev dktX8_span_1 : List UInt8 := dkwX8_span_1 ++ dktX8_span_2
def dkwX8_span_0 : List UInt8 := [42, 27, 3, 16, 30, 184, 0, 53, 154, 0, 7, 4, 167, 0, 4, 3, 181, 0, 50, 42, 180, 0, 50]
abbrev dktX8_span_0 : List UInt8 := dkwX8_span_0 ++ dktX8_span_1
theorem dksX8_span_0 : cX8_span.data.toList.drop 0 = dktX8_span_0 := by decide +kernel
theorem dksX8_span_1 : cX8_span.data.toList.drop 23 = dktX8_span_1 := dk_seg dksX8_span_0 23 rfl rfl
theorem dksX8_span_2 : cX8_span.data.toList.drop 45 = dktX8_span_2 := dk_seg dksX8_span_1 22 rfl rfl
theorem dksX8_span_3 : cX8_span.data.toList.drop 67 = dktX8_span_3 := dk_seg dksX8_span_2 22 rfl rfl
theorem dksX8_span_4 : cX8_span.data.toList.drop 90 = dktX8_span_4 := dk_seg dksX8_span_3 23 rfl rfl
theorem dX8_span_0 : decode cX8_span 0 = .ok (.aload_n 0, 1) := dk_42 (dk_at dksX8_span_0 0 rfl rfl)
theorem dX8_span_1 : decode cX8_span 1 = .ok (.iload_n 1, 1) := dk_27 (dk_at dksX8_span_0 1 rfl rfl)
theorem dX8_span_2 : decode cX8_span 2 = .ok (.iconst 0, 1) := dk_3 (dk_at dksX8_span_0 2 rfl rfl)
theorem dX8_span_3 : decode cX8_span 3 = .ok (.bipush 30, 2) := dk_16 30 (dk_at dksX8_span_0 3 rfl rfl)
theorem dX8_span_5 : decode cX8_span 5 = .ok (.invokestatic 53, 3) := dk_184 0 53 (dk_at dksX8_span_0 5 rfl rfl)
theorem dX8_span_8 : decode cX8_span 8 = .ok (.ifCond .ne 7, 3) := dk_154 0 7 (dk_at dksX8_span_0 8 rfl rfl)
theorem dX8_span_11 : decode cX8_span 11 = .ok (.iconst 1, 1) := dk_4 (dk_at dksX8_span_0 11 rfl rfl)
theorem dX8_span_12 : decode cX8_span 12 = .ok (.goto 4, 3) := dk_167 0 4 (dk_at dksX8_span_0 12 rfl rfl)
theorem dX8_span_15 : decode cX8_span 15 = .ok (.iconst 0, 1) := dk_3 (dk_at dksX8_span_0 15 rfl rfl)
theorem dX8_span_16 : decode cX8_span 16 = .ok (.putfield 50, 3) := dk_181 0 50 (dk_at dksX8_span_0 16 rfl rfl)
theorem dX8_span_19 : decode cX8_span 19 = .ok (.aload_n 0, 1) := dk_42 (dk_at dksX8_span_0 19 rfl rfl)
theorem dX8_span_20 : decode cX8_span 20 = .ok (.getfield 50, 3) := dk_180 0 50 (dk_at dksX8_span_0 20 rfl rfl)
theorem dX8_span_23 : decode cX8_span 23 = .ok (.ifCond .le 5, 3) := dk_158 0 5 (dk_at dksX8_span_1 0 rfl rfl)
theorem dX8_span_26 : decode cX8_span 26 = .ok (.iconst 0, 1) := dk_3 (dk_at dksX8_span_1 3 rfl rfl)
theorem dX8_span_27 : decode cX8_span 27 = .ok (.ireturn, 1) := dk_172 (dk_at dksX8_span_1 4 rfl rfl)
theorem dX8_span_28 : decode cX8_span 28 = .ok (.aload_n 0, 1) := dk_42 (dk_at dksX8_span_1 5 rfl rfl)
theorem dX8_span_29 : decode cX8_span 29 = .ok (.invokevirtual 169, 3) := dk_182 0 169 (dk_at dksX8_span_1 6 rfl rfl)
theorem dX8_span_32 : decode cX8_span 32 = .ok (.iconst (-1), 1) := dk_2 (dk_at dksX8_span_1 9 rfl rfl)
theorem dX8_span_33 : decode cX8_span 33 = .ok (.istore_n 3, 1) := dk_62 (dk_at dksX8_span_1 10 rfl rfl)
theorem dX8_span_34 : decode cX8_span 34 = .ok (.iconst 1, 1) := dk_4 (dk_at dksX8_span_1 11 rfl rfl)
theorem dX8_span_35 : decode cX8_span 35 = .ok (.istore 4, 2) := dk_54 4 (dk_at dksX8_span_1 12 rfl rfl)
theorem dX8_span_37 : decode cX8_span 37 = .ok (.iload 4, 2) := dk_21 4 (dk_at dksX8_span_1 14 rfl rfl)
theorem dX8_span_39 : decode cX8_span 39 = .ok (.bipush 6, 2) := dk_16 6 (dk_at dksX8_span_1 16 rfl rfl)
theorem dX8_span_41 : decode cX8_span 41 = .ok (.if_icmp .gt 55, 3) := dk_163 0 55 (dk_at dksX8_span_1 18 rfl rfl)
theorem dX8_span_44 : decode cX8_span 44 = .ok (.aload_n 0, 1) := dk_42 (dk_at dksX8_span_1 21 rfl rfl)
theorem dX8_span_45 : decode cX8_span 45 = .ok (.getfield 7, 3) := dk_180 0 7 (dk_at dksX8_span_2 0 rfl rfl)
theorem dX8_span_48 : decode cX8_span 48 = .ok (.bipush 9, 2) := dk_16 9 (dk_at dksX8_span_2 3 rfl rfl)
theorem dX8_span_50 : decode cX8_span 50 = .ok (.iload 4, 2) := dk_21 4 (dk_at dksX8_span_2 5 rfl rfl)
theorem dX8_span_52 : decode cX8_span 52 = .ok (.iastore, 1) := dk_79 (dk_at dksX8_span_2 7 rfl rfl)
theorem dX8_span_53 : decode cX8_span 53 = .ok (.aload_n 0, 1) := dk_42 (dk_at dksX8_span_2 8 rfl rfl)
theorem dX8_span_54 : decode cX8_span 54 = .ok (.iload_n 1, 1) := dk_27 (dk_at dksX8_span_2 9 rfl rfl)
theorem dX8_span_55 : decode cX8_span 55 = .ok (.invokevirtual 375, 3) := dk_182 1 119 (dk_at dksX8_span_2 10 rfl rfl)
theorem dX8_span_58 : decode cX8_span 58 = .ok (.istore 5, 2) := dk_54 5 (dk_at dksX8_span_2 13 rfl rfl)
theorem dX8_span_60 : decode cX8_span 60 = .ok (.iload_n 3, 1) := dk_29 (dk_at dksX8_span_2 15 rfl rfl)
theorem dX8_span_61 : decode cX8_span 61 = .ok (.iconst (-1), 1) := dk_2 (dk_at dksX8_span_2 16 rfl rfl)
theorem dX8_span_62 : decode cX8_span 62 = .ok (.if_icmp .ne 8, 3) := dk_160 0 8 (dk_at dksX8_span_2 17 rfl rfl)
theorem dX8_span_65 : decode cX8_span 65 = .ok (.iload 5, 2) := dk_21 5 (dk_at dksX8_span_2 20 rfl rfl)
theorem dX8_span_67 : decode cX8_span 67 = .ok (.goto 22, 3) := dk_167 0 22 (dk_at dksX8_span_3 0 rfl rfl)
theorem dX8_span_70 : decode cX8_span 70 = .ok (.iload_n 2, 1) := dk_28 (dk_at dksX8_span_3 3 rfl rfl)
theorem dX8_span_71 : decode cX8_span 71 = .ok (.ifCond .eq 12, 3) := dk_153 0 12 (dk_at dksX8_span_3 4 rfl rfl)
theorem dX8_span_74 : decode cX8_span 74 = .ok (.iload_n 3, 1) := dk_29 (dk_at dksX8_span_3 7 rfl rfl)
theorem dX8_span_75 : decode cX8_span 75 = .ok (.iload 5, 2) := dk_21 5 (dk_at dksX8_span_3 8 rfl rfl)
theorem dX8_span_77 : decode cX8_span 77 = .ok (.invokestatic 150, 3) := dk_184 0 150 (dk_at dksX8_span_3 10 rfl rfl)
theorem dX8_span_80 : decode cX8_span 80 = .ok (.goto 9, 3) := dk_167 0 9 (dk_at dksX8_span_3 13 rfl rfl)
theorem dX8_span_83 : decode cX8_span 83 = .ok (.iload_n 3, 1) := dk_29 (dk_at dksX8_span_3 16 rfl rfl)
theorem dX8_span_84 : decode cX8_span 84 = .ok (.iload 5, 2) := dk_21 5 (dk_at dksX8_span_3 17 rfl rfl)
theorem dX8_span_86 : decode cX8_span 86 = .ok (.invokestatic 272, 3) := dk_184 1 16 (dk_at dksX8_span_3 19 rfl rfl)
theorem dX8_span_89 : decode cX8_span 89 = .ok (.istore_n 3, 1) := dk_62 (dk_at dksX8_span_3 22 rfl rfl)
theorem dX8_span_90 : decode cX8_span 90 = .ok (.iinc 4 1, 3) := dk_132 4 1 (dk_at dksX8_span_4 0 rfl rfl)
theorem dX8_span_93 : decode cX8_span 93 = .ok (.goto (-56), 3) := dk_167 255 200 (dk_at dksX8_span_4 3 rfl rfl)
theorem dX8_span_96 : decode cX8_span 96 = .ok (.iload_n 3, 1) := dk_29 (dk_at dksX8_span_4 6 rfl rfl)
theorem dX8_span_97 : decode cX8_span 97 = .ok (.ireturn, 1) := dk_172 (dk_at dksX8_span_4 7 rfl rfl)
abbrev cX8_led : ByteArray := prog_21_method_123_code
def yX8_led : MethodName := ⟨RX8, "led", "(IZ)I"⟩
def dkwX8_led_4 : List UInt8 := [28, 153, 0, 8, 21, 4, 167, 0, 4, 29, 172]
abbrev dktX8_led_4 : List UInt8 := dkwX8_led_4 ++ []
def dkwX8_led_3 : List UInt8 := [154, 0, 6, 167, 0, 15, 132, 3, 1, 42, 21, 5, 4, 182, 1, 122, 54, 4, 132, 5, 255, 167, 255, 207]
abbrev dktX8_led_3 : List UInt8 := dkwX8_led_3 ++ dktX8_led_4
def dkwX8_led_2 : List UInt8 := [21, 5, 6, 182, 1, 122, 27, 160, 0, 33, 42, 21, 5, 7, 182, 1, 122, 4, 5, 184, 0, 53]
abbrev dktX8_led_2 : List UInt8 := dkwX8_led_2 ++ dktX8_led_3
def dkwX8_led_1 : List UInt8 := [3, 172, 3, 62, 2, 54, 4, 42, 180, 0, 7, 16, 8, 46, 4, 100, 54, 5, 21, 5, 155, 0, 50, 42]
abbrev dktX8_led_1 : List UInt8 := dkwX8_led_1 ++ dktX8_led_2
def dkwX8_led_0 : List UInt8 := [42, 42, 27, 182, 0, 250, 154, 0, 7, 4, 167, 0, 4, 3, 181, 0, 50, 42, 180, 0, 50, 158, 0, 5]
abbrev dktX8_led_0 : List UInt8 := dkwX8_led_0 ++ dktX8_led_1
theorem dksX8_led_0 : cX8_led.data.toList.drop 0 = dktX8_led_0 := by decide +kernel
theorem dksX8_led_1 : cX8_led.data.toList.drop 24 = dktX8_led_1 := dk_seg dksX8_led_0 24 rfl rfl
theorem dksX8_led_2 : cX8_led.data.toList.drop 48 = dktX8_led_2 := dk_seg dksX8_led_1 24 rfl rfl
theorem dksX8_led_3 : cX8_led.data.toList.drop 70 = dktX8_led_3 := dk_seg dksX8_led_2 22 rfl rfl
theorem dksX8_led_4 : cX8_led.data.toList.drop 94 = dktX8_led_4 := dk_seg dksX8_led_3 24 rfl rfl
theorem dX8_led_0 : decode cX8_led 0 = .ok (.aload_n 0, 1) := dk_42 (dk_at dksX8_led_0 0 rfl rfl)
theorem dX8_led_1 : decode cX8_led 1 = .ok (.aload_n 0, 1) := dk_42 (dk_at dksX8_led_0 1 rfl rfl)
theorem dX8_led_2 : decode cX8_led 2 = .ok (.iload_n 1, 1) := dk_27 (dk_at dksX8_led_0 2 rfl rfl)
theorem dX8_led_3 : decode cX8_led 3 = .ok (.invokevirtual 250, 3) := dk_182 0 250 (dk_at dksX8_led_0 3 rfl rfl)
theorem dX8_led_6 : decode cX8_led 6 = .ok (.ifCond .ne 7, 3) := dk_154 0 7 (dk_at dksX8_led_0 6 rfl rfl)
theorem dX8_led_9 : decode cX8_led 9 = .ok (.iconst 1, 1) := dk_4 (dk_at dksX8_led_0 9 rfl rfl)
theorem dX8_led_10 : decode cX8_led 10 = .ok (.goto 4, 3) := dk_167 0 4 (dk_at dksX8_led_0 10 rfl rfl)
theorem dX8_led_13 : decode cX8_led 13 = .ok (.iconst 0, 1) := dk_3 (dk_at dksX8_led_0 13 rfl rfl)
theorem dX8_led_14 : decode cX8_led 14 = .ok (.putfield 50, 3) := dk_181 0 50 (dk_at dksX8_led_0 14 rfl rfl)
theorem dX8_led_17 : decode cX8_led 17 = .ok (.aload_n 0, 1) := dk_42 (dk_at dksX8_led_0 17 rfl rfl)
theorem dX8_led_18 : decode cX8_led 18 = .ok (.getfield 50, 3) := dk_180 0 50 (dk_at dksX8_led_0 18 rfl rfl)
theorem dX8_led_21 : decode cX8_led 21 = .ok (.ifCond .le 5, 3) := dk_158 0 5 (dk_at dksX8_led_0 21 rfl rfl)
theorem dX8_led_24 : decode cX8_led 24 = .ok (.iconst 0, 1) := dk_3 (dk_at dksX8_led_1 0 rfl rfl)
theorem dX8_led_25 : decode cX8_led 25 = .ok (.ireturn, 1) := dk_172 (dk_at dksX8_led_1 1 rfl rfl)
theorem dX8_led_26 : decode cX8_led 26 = .ok (.iconst 0, 1) := dk_3 (dk_at dksX8_led_1 2 rfl rfl)
theorem dX8_led_27 : decode cX8_led 27 = .ok (.istore_n 3, 1) := dk_62 (dk_at dksX8_led_1 3 rfl rfl)
theorem dX8_led_28 : decode cX8_led 28 = .ok (.iconst (-1), 1) := dk_2 (dk_at dksX8_led_1 4 rfl rfl)
theorem dX8_led_29 : decode cX8_led 29 = .ok (.istore 4, 2) := dk_54 4 (dk_at dksX8_led_1 5 rfl rfl)
theorem dX8_led_31 : decode cX8_led 31 = .ok (.aload_n 0, 1) := dk_42 (dk_at dksX8_led_1 7 rfl rfl)
theorem dX8_led_32 : decode cX8_led 32 = .ok (.getfield 7, 3) := dk_180 0 7 (dk_at dksX8_led_1 8 rfl rfl)
theorem dX8_led_35 : decode cX8_led 35 = .ok (.bipush 8, 2) := dk_16 8 (dk_at dksX8_led_1 11 rfl rfl)
theorem dX8_led_37 : decode cX8_led 37 = .ok (.iaload, 1) := dk_46 (dk_at dksX8_led_1 13 rfl rfl)
theorem dX8_led_38 : decode cX8_led 38 = .ok (.iconst 1, 1) := dk_4 (dk_at dksX8_led_1 14 rfl rfl)
theorem dX8_led_39 : decode cX8_led 39 = .ok (.isub, 1) := dk_100 (dk_at dksX8_led_1 15 rfl rfl)
theorem dX8_led_40 : decode cX8_led 40 = .ok (.istore 5, 2) := dk_54 5 (dk_at dksX8_led_1 16 rfl rfl)
theorem dX8_led_42 : decode cX8_led 42 = .ok (.iload 5, 2) := dk_21 5 (dk_at dksX8_led_1 18 rfl rfl)
theorem dX8_led_44 : decode cX8_led 44 = .ok (.ifCond .lt 50, 3) := dk_155 0 50 (dk_at dksX8_led_1 20 rfl rfl)
theorem dX8_led_47 : decode cX8_led 47 = .ok (.aload_n 0, 1) := dk_42 (dk_at dksX8_led_1 23 rfl rfl)
theorem dX8_led_48 : decode cX8_led 48 = .ok (.iload 5, 2) := dk_21 5 (dk_at dksX8_led_2 0 rfl rfl)
theorem dX8_led_50 : decode cX8_led 50 = .ok (.iconst 3, 1) := dk_6 (dk_at dksX8_led_2 2 rfl rfl)
theorem dX8_led_51 : decode cX8_led 51 = .ok (.invokevirtual 378, 3) := dk_182 1 122 (dk_at dksX8_led_2 3 rfl rfl)
theorem dX8_led_54 : decode cX8_led 54 = .ok (.iload_n 1, 1) := dk_27 (dk_at dksX8_led_2 6 rfl rfl)
theorem dX8_led_55 : decode cX8_led 55 = .ok (.if_icmp .ne 33, 3) := dk_160 0 33 (dk_at dksX8_led_2 7 rfl rfl)
theorem dX8_led_58 : decode cX8_led 58 = .ok (.aload_n 0, 1) := dk_42 (dk_at dksX8_led_2 10 rfl rfl)
theorem dX8_led_59 : decode cX8_led 59 = .ok (.iload 5, 2) := dk_21 5 (dk_at dksX8_led_2 11 rfl rfl)
theorem dX8_led_61 : decode cX8_led 61 = .ok (.iconst 4, 1) := dk_7 (dk_at dksX8_led_2 13 rfl rfl)
theorem dX8_led_62 : decode cX8_led 62 = .ok (.invokevirtual 378, 3) := dk_182 1 122 (dk_at dksX8_led_2 14 rfl rfl)
theorem dX8_led_65 : decode cX8_led 65 = .ok (.iconst 1, 1) := dk_4 (dk_at dksX8_led_2 17 rfl rfl)
theorem dX8_led_66 : decode cX8_led 66 = .ok (.iconst 2, 1) := dk_5 (dk_at dksX8_led_2 18 rfl rfl)
theorem dX8_led_67 : decode cX8_led 67 = .ok (.invokestatic 53, 3) := dk_184 0 53 (dk_at dksX8_led_2 19 rfl rfl)
theorem dX8_led_70 : decode cX8_led 70 = .ok (.ifCond .ne 6, 3) := dk_154 0 6 (dk_at dksX8_led_3 0 rfl rfl)
theorem dX8_led_73 : decode cX8_led 73 = .ok (.goto 15, 3) := dk_167 0 15 (dk_at dksX8_led_3 3 rfl rfl)
theorem dX8_led_76 : decode cX8_led 76 = .ok (.iinc 3 1, 3) := dk_132 3 1 (dk_at dksX8_led_3 6 rfl rfl)
theorem dX8_led_79 : decode cX8_led 79 = .ok (.aload_n 0, 1) := dk_42 (dk_at dksX8_led_3 9 rfl rfl)
theorem dX8_led_80 : decode cX8_led 80 = .ok (.iload 5, 2) := dk_21 5 (dk_at dksX8_led_3 10 rfl rfl)
theorem dX8_led_82 : decode cX8_led 82 = .ok (.iconst 1, 1) := dk_4 (dk_at dksX8_led_3 12 rfl rfl)
theorem dX8_led_83 : decode cX8_led 83 = .ok (.invokevirtual 378, 3) := dk_182 1 122 (dk_at dksX8_led_3 13 rfl rfl)
theorem dX8_led_86 : decode cX8_led 86 = .ok (.istore 4, 2) := dk_54 4 (dk_at dksX8_led_3 16 rfl rfl)
theorem dX8_led_88 : decode cX8_led 88 = .ok (.iinc 5 (-1), 3) := dk_132 5 255 (dk_at dksX8_led_3 18 rfl rfl)
theorem dX8_led_91 : decode cX8_led 91 = .ok (.goto (-49), 3) := dk_167 255 207 (dk_at dksX8_led_3 21 rfl rfl)
theorem dX8_led_94 : decode cX8_led 94 = .ok (.iload_n 2, 1) := dk_28 (dk_at dksX8_led_4 0 rfl rfl)
theorem dX8_led_95 : decode cX8_led 95 = .ok (.ifCond .eq 8, 3) := dk_153 0 8 (dk_at dksX8_led_4 1 rfl rfl)
theorem dX8_led_98 : decode cX8_led 98 = .ok (.iload 4, 2) := dk_21 4 (dk_at dksX8_led_4 4 rfl rfl)
theorem dX8_led_100 : decode cX8_led 100 = .ok (.goto 4, 3) := dk_167 0 4 (dk_at dksX8_led_4 6 rfl rfl)
theorem dX8_led_103 : decode cX8_led 103 = .ok (.iload_n 3, 1) := dk_29 (dk_at dksX8_led_4 9 rfl rfl)
theorem dX8_led_104 : decode cX8_led 104 = .ok (.ireturn, 1) := dk_172 (dk_at dksX8_led_4 10 rfl rfl)
abbrev cX8_logged : ByteArray := prog_21_method_122_code
def yX8_logged : MethodName := ⟨RX8, "logged", "(II)I"⟩
def dkwX8_logged_0 : List UInt8 := [42, 180, 0, 7, 17, 1, 28, 8, 27, 104, 96, 28, 96, 46, 172]
abbrev dktX8_logged_0 : List UInt8 := dkwX8_logged_0 ++ []
theorem dksX8_logged_0 : cX8_logged.data.toList.drop 0 = dktX8_logged_0 := by decide +kernel
theorem dX8_logged_0 : decode cX8_logged 0 = .ok (.aload_n 0, 1) := dk_42 (dk_at dksX8_logged_0 0 rfl rfl)
theorem dX8_logged_1 : decode cX8_logged 1 = .ok (.getfield 7, 3) := dk_180 0 7 (dk_at dksX8_logged_0 1 rfl rfl)
theorem dX8_logged_4 : decode cX8_logged 4 = .ok (.sipush 284, 3) := dk_17 1 28 (dk_at dksX8_logged_0 4 rfl rfl)
theorem dX8_logged_7 : decode cX8_logged 7 = .ok (.iconst 5, 1) := dk_8 (dk_at dksX8_logged_0 7 rfl rfl)
theorem dX8_logged_8 : decode cX8_logged 8 = .ok (.iload_n 1, 1) := dk_27 (dk_at dksX8_logged_0 8 rfl rfl)
theorem dX8_logged_9 : decode cX8_logged 9 = .ok (.imul, 1) := dk_104 (dk_at dksX8_logged_0 9 rfl rfl)
theorem dX8_logged_10 : decode cX8_logged 10 = .ok (.iadd, 1) := dk_96 (dk_at dksX8_logged_0 10 rfl rfl)
theorem dX8_logged_11 : decode cX8_logged 11 = .ok (.iload_n 2, 1) := dk_28 (dk_at dksX8_logged_0 11 rfl rfl)
theorem dX8_logged_12 : decode cX8_logged 12 = .ok (.iadd, 1) := dk_96 (dk_at dksX8_logged_0 12 rfl rfl)
theorem dX8_logged_13 : decode cX8_logged 13 = .ok (.iaload, 1) := dk_46 (dk_at dksX8_logged_0 13 rfl rfl)
theorem dX8_logged_14 : decode cX8_logged 14 = .ok (.ireturn, 1) := dk_172 (dk_at dksX8_logged_0 14 rfl rfl)
abbrev cX8_log : ByteArray := prog_21_method_124_code
def yX8_log : MethodName := ⟨RX8, "log", "(II)I"⟩
def dkwX8_log_2 : List UInt8 := [28, 182, 1, 122, 167, 0, 5, 16, 157, 172]
abbrev dktX8_log_2 : List UInt8 := dkwX8_log_2 ++ []
def dkwX8_log_1 : List UInt8 := [158, 0, 5, 3, 172, 27, 3, 42, 180, 0, 7, 16, 8, 46, 4, 100, 184, 0, 53, 153, 0, 12, 42, 27]
abbrev dktX8_log_1 : List UInt8 := dkwX8_log_1 ++ dktX8_log_2
def dkwX8_log_0 : List UInt8 := [42, 28, 3, 7, 184, 0, 53, 154, 0, 7, 4, 167, 0, 4, 3, 181, 0, 50, 42, 180, 0, 50]
abbrev dktX8_log_0 : List UInt8 := dkwX8_log_0 ++ dktX8_log_1
theorem dksX8_log_0 : cX8_log.data.toList.drop 0 = dktX8_log_0 := by decide +kernel
theorem dksX8_log_1 : cX8_log.data.toList.drop 22 = dktX8_log_1 := dk_seg dksX8_log_0 22 rfl rfl
theorem dksX8_log_2 : cX8_log.data.toList.drop 46 = dktX8_log_2 := dk_seg dksX8_log_1 24 rfl rfl
theorem dX8_log_0 : decode cX8_log 0 = .ok (.aload_n 0, 1) := dk_42 (dk_at dksX8_log_0 0 rfl rfl)
theorem dX8_log_1 : decode cX8_log 1 = .ok (.iload_n 2, 1) := dk_28 (dk_at dksX8_log_0 1 rfl rfl)
theorem dX8_log_2 : decode cX8_log 2 = .ok (.iconst 0, 1) := dk_3 (dk_at dksX8_log_0 2 rfl rfl)
theorem dX8_log_3 : decode cX8_log 3 = .ok (.iconst 4, 1) := dk_7 (dk_at dksX8_log_0 3 rfl rfl)
theorem dX8_log_4 : decode cX8_log 4 = .ok (.invokestatic 53, 3) := dk_184 0 53 (dk_at dksX8_log_0 4 rfl rfl)
theorem dX8_log_7 : decode cX8_log 7 = .ok (.ifCond .ne 7, 3) := dk_154 0 7 (dk_at dksX8_log_0 7 rfl rfl)
theorem dX8_log_10 : decode cX8_log 10 = .ok (.iconst 1, 1) := dk_4 (dk_at dksX8_log_0 10 rfl rfl)
theorem dX8_log_11 : decode cX8_log 11 = .ok (.goto 4, 3) := dk_167 0 4 (dk_at dksX8_log_0 11 rfl rfl)
theorem dX8_log_14 : decode cX8_log 14 = .ok (.iconst 0, 1) := dk_3 (dk_at dksX8_log_0 14 rfl rfl)
theorem dX8_log_15 : decode cX8_log 15 = .ok (.putfield 50, 3) := dk_181 0 50 (dk_at dksX8_log_0 15 rfl rfl)
theorem dX8_log_18 : decode cX8_log 18 = .ok (.aload_n 0, 1) := dk_42 (dk_at dksX8_log_0 18 rfl rfl)
theorem dX8_log_19 : decode cX8_log 19 = .ok (.getfield 50, 3) := dk_180 0 50 (dk_at dksX8_log_0 19 rfl rfl)
theorem dX8_log_22 : decode cX8_log 22 = .ok (.ifCond .le 5, 3) := dk_158 0 5 (dk_at dksX8_log_1 0 rfl rfl)
theorem dX8_log_25 : decode cX8_log 25 = .ok (.iconst 0, 1) := dk_3 (dk_at dksX8_log_1 3 rfl rfl)
theorem dX8_log_26 : decode cX8_log 26 = .ok (.ireturn, 1) := dk_172 (dk_at dksX8_log_1 4 rfl rfl)
theorem dX8_log_27 : decode cX8_log 27 = .ok (.iload_n 1, 1) := dk_27 (dk_at dksX8_log_1 5 rfl rfl)
theorem dX8_log_28 : decode cX8_log 28 = .ok (.iconst 0, 1) := dk_3 (dk_at dksX8_log_1 6 rfl rfl)
theorem dX8_log_29 : decode cX8_log 29 = .ok (.aload_n 0, 1) := dk_42 (dk_at dksX8_log_1 7 rfl rfl)
theorem dX8_log_30 : decode cX8_log 30 = .ok (.getfield 7, 3) := dk_180 0 7 (dk_at dksX8_log_1 8 rfl rfl)
theorem dX8_log_33 : decode cX8_log 33 = .ok (.bipush 8, 2) := dk_16 8 (dk_at dksX8_log_1 11 rfl rfl)
theorem dX8_log_35 : decode cX8_log 35 = .ok (.iaload, 1) := dk_46 (dk_at dksX8_log_1 13 rfl rfl)
theorem dX8_log_36 : decode cX8_log 36 = .ok (.iconst 1, 1) := dk_4 (dk_at dksX8_log_1 14 rfl rfl)
theorem dX8_log_37 : decode cX8_log 37 = .ok (.isub, 1) := dk_100 (dk_at dksX8_log_1 15 rfl rfl)
theorem dX8_log_38 : decode cX8_log 38 = .ok (.invokestatic 53, 3) := dk_184 0 53 (dk_at dksX8_log_1 16 rfl rfl)
theorem dX8_log_41 : decode cX8_log 41 = .ok (.ifCond .eq 12, 3) := dk_153 0 12 (dk_at dksX8_log_1 19 rfl rfl)
theorem dX8_log_44 : decode cX8_log 44 = .ok (.aload_n 0, 1) := dk_42 (dk_at dksX8_log_1 22 rfl rfl)
theorem dX8_log_45 : decode cX8_log 45 = .ok (.iload_n 1, 1) := dk_27 (dk_at dksX8_log_1 23 rfl rfl)
theorem dX8_log_46 : decode cX8_log 46 = .ok (.iload_n 2, 1) := dk_28 (dk_at dksX8_log_2 0 rfl rfl)
theorem dX8_log_47 : decode cX8_log 47 = .ok (.invokevirtual 378, 3) := dk_182 1 122 (dk_at dksX8_log_2 1 rfl rfl)
theorem dX8_log_50 : decode cX8_log 50 = .ok (.goto 5, 3) := dk_167 0 5 (dk_at dksX8_log_2 4 rfl rfl)
theorem dX8_log_53 : decode cX8_log 53 = .ok (.bipush (-99), 2) := dk_16 157 (dk_at dksX8_log_2 7 rfl rfl)
theorem dX8_log_55 : decode cX8_log 55 = .ok (.ireturn, 1) := dk_172 (dk_at dksX8_log_2 9 rfl rfl)
abbrev cX8_seed : ByteArray := prog_21_method_125_code
def yX8_seed : MethodName := ⟨RX8, "seed", "(I)I"⟩
def dkwX8_seed_0 : List UInt8 := [42, 3, 181, 0, 50, 42, 180, 0, 7, 16, 9, 46, 61, 42, 180, 0, 7, 16, 9, 27, 79, 28, 172]
abbrev dktX8_seed_0 : List UInt8 := dkwX8_seed_0 ++ []
theorem dksX8_seed_0 : cX8_seed.data.toList.drop 0 = dktX8_seed_0 := by decide +kernel
theorem dX8_seed_0 : decode cX8_seed 0 = .ok (.aload_n 0, 1) := dk_42 (dk_at dksX8_seed_0 0 rfl rfl)
theorem dX8_seed_1 : decode cX8_seed 1 = .ok (.iconst 0, 1) := dk_3 (dk_at dksX8_seed_0 1 rfl rfl)
theorem dX8_seed_2 : decode cX8_seed 2 = .ok (.putfield 50, 3) := dk_181 0 50 (dk_at dksX8_seed_0 2 rfl rfl)
theorem dX8_seed_5 : decode cX8_seed 5 = .ok (.aload_n 0, 1) := dk_42 (dk_at dksX8_seed_0 5 rfl rfl)
theorem dX8_seed_6 : decode cX8_seed 6 = .ok (.getfield 7, 3) := dk_180 0 7 (dk_at dksX8_seed_0 6 rfl rfl)
theorem dX8_seed_9 : decode cX8_seed 9 = .ok (.bipush 9, 2) := dk_16 9 (dk_at dksX8_seed_0 9 rfl rfl)
theorem dX8_seed_11 : decode cX8_seed 11 = .ok (.iaload, 1) := dk_46 (dk_at dksX8_seed_0 11 rfl rfl)
theorem dX8_seed_12 : decode cX8_seed 12 = .ok (.istore_n 2, 1) := dk_61 (dk_at dksX8_seed_0 12 rfl rfl)
theorem dX8_seed_13 : decode cX8_seed 13 = .ok (.aload_n 0, 1) := dk_42 (dk_at dksX8_seed_0 13 rfl rfl)
theorem dX8_seed_14 : decode cX8_seed 14 = .ok (.getfield 7, 3) := dk_180 0 7 (dk_at dksX8_seed_0 14 rfl rfl)
theorem dX8_seed_17 : decode cX8_seed 17 = .ok (.bipush 9, 2) := dk_16 9 (dk_at dksX8_seed_0 17 rfl rfl)
theorem dX8_seed_19 : decode cX8_seed 19 = .ok (.iload_n 1, 1) := dk_27 (dk_at dksX8_seed_0 19 rfl rfl)
theorem dX8_seed_20 : decode cX8_seed 20 = .ok (.iastore, 1) := dk_79 (dk_at dksX8_seed_0 20 rfl rfl)
theorem dX8_seed_21 : decode cX8_seed 21 = .ok (.iload_n 2, 1) := dk_28 (dk_at dksX8_seed_0 21 rfl rfl)
theorem dX8_seed_22 : decode cX8_seed 22 = .ok (.ireturn, 1) := dk_172 (dk_at dksX8_seed_0 22 rfl rfl)
abbrev cX8_undo : ByteArray := prog_21_method_126_code
def yX8_undo : MethodName := ⟨RX8, "undo", "()Z"⟩
def dkwX8_undo_2 : List UInt8 := [180, 0, 182, 104, 27, 96, 46, 79, 132, 1, 1, 167, 255, 225, 4, 172]
abbrev dktX8_undo_2 : List UInt8 := dkwX8_undo_2 ++ []
def dkwX8_undo_1 : List UInt8 := [3, 60, 27, 17, 2, 72, 162, 0, 30, 42, 180, 0, 7, 27, 42, 180, 0, 19, 17, 2, 72, 42]
abbrev dktX8_undo_1 : List UInt8 := dkwX8_undo_1 ++ dktX8_undo_2
def dkwX8_undo_0 : List UInt8 := [42, 3, 181, 0, 50, 42, 180, 0, 182, 154, 0, 5, 3, 172, 42, 89, 180, 0, 182, 4, 100, 181, 0, 182]
abbrev dktX8_undo_0 : List UInt8 := dkwX8_undo_0 ++ dktX8_undo_1
theorem dksX8_undo_0 : cX8_undo.data.toList.drop 0 = dktX8_undo_0 := by decide +kernel
theorem dksX8_undo_1 : cX8_undo.data.toList.drop 24 = dktX8_undo_1 := dk_seg dksX8_undo_0 24 rfl rfl
theorem dksX8_undo_2 : cX8_undo.data.toList.drop 46 = dktX8_undo_2 := dk_seg dksX8_undo_1 22 rfl rfl
theorem dX8_undo_0 : decode cX8_undo 0 = .ok (.aload_n 0, 1) := dk_42 (dk_at dksX8_undo_0 0 rfl rfl)
theorem dX8_undo_1 : decode cX8_undo 1 = .ok (.iconst 0, 1) := dk_3 (dk_at dksX8_undo_0 1 rfl rfl)
theorem dX8_undo_2 : decode cX8_undo 2 = .ok (.putfield 50, 3) := dk_181 0 50 (dk_at dksX8_undo_0 2 rfl rfl)
theorem dX8_undo_5 : decode cX8_undo 5 = .ok (.aload_n 0, 1) := dk_42 (dk_at dksX8_undo_0 5 rfl rfl)
theorem dX8_undo_6 : decode cX8_undo 6 = .ok (.getfield 182, 3) := dk_180 0 182 (dk_at dksX8_undo_0 6 rfl rfl)
theorem dX8_undo_9 : decode cX8_undo 9 = .ok (.ifCond .ne 5, 3) := dk_154 0 5 (dk_at dksX8_undo_0 9 rfl rfl)
theorem dX8_undo_12 : decode cX8_undo 12 = .ok (.iconst 0, 1) := dk_3 (dk_at dksX8_undo_0 12 rfl rfl)
theorem dX8_undo_13 : decode cX8_undo 13 = .ok (.ireturn, 1) := dk_172 (dk_at dksX8_undo_0 13 rfl rfl)
theorem dX8_undo_14 : decode cX8_undo 14 = .ok (.aload_n 0, 1) := dk_42 (dk_at dksX8_undo_0 14 rfl rfl)
theorem dX8_undo_15 : decode cX8_undo 15 = .ok (.dup, 1) := dk_89 (dk_at dksX8_undo_0 15 rfl rfl)
theorem dX8_undo_16 : decode cX8_undo 16 = .ok (.getfield 182, 3) := dk_180 0 182 (dk_at dksX8_undo_0 16 rfl rfl)
theorem dX8_undo_19 : decode cX8_undo 19 = .ok (.iconst 1, 1) := dk_4 (dk_at dksX8_undo_0 19 rfl rfl)
theorem dX8_undo_20 : decode cX8_undo 20 = .ok (.isub, 1) := dk_100 (dk_at dksX8_undo_0 20 rfl rfl)
theorem dX8_undo_21 : decode cX8_undo 21 = .ok (.putfield 182, 3) := dk_181 0 182 (dk_at dksX8_undo_0 21 rfl rfl)
theorem dX8_undo_24 : decode cX8_undo 24 = .ok (.iconst 0, 1) := dk_3 (dk_at dksX8_undo_1 0 rfl rfl)
theorem dX8_undo_25 : decode cX8_undo 25 = .ok (.istore_n 1, 1) := dk_60 (dk_at dksX8_undo_1 1 rfl rfl)
theorem dX8_undo_26 : decode cX8_undo 26 = .ok (.iload_n 1, 1) := dk_27 (dk_at dksX8_undo_1 2 rfl rfl)
theorem dX8_undo_27 : decode cX8_undo 27 = .ok (.sipush 584, 3) := dk_17 2 72 (dk_at dksX8_undo_1 3 rfl rfl)
theorem dX8_undo_30 : decode cX8_undo 30 = .ok (.if_icmp .ge 30, 3) := dk_162 0 30 (dk_at dksX8_undo_1 6 rfl rfl)
theorem dX8_undo_33 : decode cX8_undo 33 = .ok (.aload_n 0, 1) := dk_42 (dk_at dksX8_undo_1 9 rfl rfl)
theorem dX8_undo_34 : decode cX8_undo 34 = .ok (.getfield 7, 3) := dk_180 0 7 (dk_at dksX8_undo_1 10 rfl rfl)
theorem dX8_undo_37 : decode cX8_undo 37 = .ok (.iload_n 1, 1) := dk_27 (dk_at dksX8_undo_1 13 rfl rfl)
theorem dX8_undo_38 : decode cX8_undo 38 = .ok (.aload_n 0, 1) := dk_42 (dk_at dksX8_undo_1 14 rfl rfl)
theorem dX8_undo_39 : decode cX8_undo 39 = .ok (.getfield 19, 3) := dk_180 0 19 (dk_at dksX8_undo_1 15 rfl rfl)
theorem dX8_undo_42 : decode cX8_undo 42 = .ok (.sipush 584, 3) := dk_17 2 72 (dk_at dksX8_undo_1 18 rfl rfl)
theorem dX8_undo_45 : decode cX8_undo 45 = .ok (.aload_n 0, 1) := dk_42 (dk_at dksX8_undo_1 21 rfl rfl)
theorem dX8_undo_46 : decode cX8_undo 46 = .ok (.getfield 182, 3) := dk_180 0 182 (dk_at dksX8_undo_2 0 rfl rfl)
theorem dX8_undo_49 : decode cX8_undo 49 = .ok (.imul, 1) := dk_104 (dk_at dksX8_undo_2 3 rfl rfl)
theorem dX8_undo_50 : decode cX8_undo 50 = .ok (.iload_n 1, 1) := dk_27 (dk_at dksX8_undo_2 4 rfl rfl)
theorem dX8_undo_51 : decode cX8_undo 51 = .ok (.iadd, 1) := dk_96 (dk_at dksX8_undo_2 5 rfl rfl)
theorem dX8_undo_52 : decode cX8_undo 52 = .ok (.iaload, 1) := dk_46 (dk_at dksX8_undo_2 6 rfl rfl)
theorem dX8_undo_53 : decode cX8_undo 53 = .ok (.iastore, 1) := dk_79 (dk_at dksX8_undo_2 7 rfl rfl)
theorem dX8_undo_54 : decode cX8_undo 54 = .ok (.iinc 1 1, 3) := dk_132 1 1 (dk_at dksX8_undo_2 8 rfl rfl)
theorem dX8_undo_57 : decode cX8_undo 57 = .ok (.goto (-31), 3) := dk_167 255 225 (dk_at dksX8_undo_2 11 rfl rfl)
theorem dX8_undo_60 : decode cX8_undo 60 = .ok (.iconst 1, 1) := dk_4 (dk_at dksX8_undo_2 14 rfl rfl)
theorem dX8_undo_61 : decode cX8_undo 61 = .ok (.ireturn, 1) := dk_172 (dk_at dksX8_undo_2 15 rfl rfl)
abbrev cX8_image : ByteArray := prog_21_method_127_code
def yX8_image : MethodName := ⟨RX8, "image", "()V"⟩
def dkwX8_image_1 : List UInt8 := [46, 79, 132, 1, 1, 167, 255, 234, 42, 4, 181, 1, 125, 177]
abbrev dktX8_image_1 : List UInt8 := dkwX8_image_1 ++ []
def dkwX8_image_0 : List UInt8 := [42, 3, 181, 0, 50, 3, 60, 27, 17, 3, 216, 162, 0, 21, 42, 180, 0, 13, 27, 42, 180, 0, 7, 27]
abbrev dktX8_image_0 : List UInt8 := dkwX8_image_0 ++ dktX8_image_1
theorem dksX8_image_0 : cX8_image.data.toList.drop 0 = dktX8_image_0 := by decide +kernel
theorem dksX8_image_1 : cX8_image.data.toList.drop 24 = dktX8_image_1 := dk_seg dksX8_image_0 24 rfl rfl
theorem dX8_image_0 : decode cX8_image 0 = .ok (.aload_n 0, 1) := dk_42 (dk_at dksX8_image_0 0 rfl rfl)
theorem dX8_image_1 : decode cX8_image 1 = .ok (.iconst 0, 1) := dk_3 (dk_at dksX8_image_0 1 rfl rfl)
theorem dX8_image_2 : decode cX8_image 2 = .ok (.putfield 50, 3) := dk_181 0 50 (dk_at dksX8_image_0 2 rfl rfl)
theorem dX8_image_5 : decode cX8_image 5 = .ok (.iconst 0, 1) := dk_3 (dk_at dksX8_image_0 5 rfl rfl)
theorem dX8_image_6 : decode cX8_image 6 = .ok (.istore_n 1, 1) := dk_60 (dk_at dksX8_image_0 6 rfl rfl)
theorem dX8_image_7 : decode cX8_image 7 = .ok (.iload_n 1, 1) := dk_27 (dk_at dksX8_image_0 7 rfl rfl)
theorem dX8_image_8 : decode cX8_image 8 = .ok (.sipush 984, 3) := dk_17 3 216 (dk_at dksX8_image_0 8 rfl rfl)
theorem dX8_image_11 : decode cX8_image 11 = .ok (.if_icmp .ge 21, 3) := dk_162 0 21 (dk_at dksX8_image_0 11 rfl rfl)
theorem dX8_image_14 : decode cX8_image 14 = .ok (.aload_n 0, 1) := dk_42 (dk_at dksX8_image_0 14 rfl rfl)
theorem dX8_image_15 : decode cX8_image 15 = .ok (.getfield 13, 3) := dk_180 0 13 (dk_at dksX8_image_0 15 rfl rfl)
theorem dX8_image_18 : decode cX8_image 18 = .ok (.iload_n 1, 1) := dk_27 (dk_at dksX8_image_0 18 rfl rfl)
theorem dX8_image_19 : decode cX8_image 19 = .ok (.aload_n 0, 1) := dk_42 (dk_at dksX8_image_0 19 rfl rfl)
theorem dX8_image_20 : decode cX8_image 20 = .ok (.getfield 7, 3) := dk_180 0 7 (dk_at dksX8_image_0 20 rfl rfl)
theorem dX8_image_23 : decode cX8_image 23 = .ok (.iload_n 1, 1) := dk_27 (dk_at dksX8_image_0 23 rfl rfl)
theorem dX8_image_24 : decode cX8_image 24 = .ok (.iaload, 1) := dk_46 (dk_at dksX8_image_1 0 rfl rfl)
theorem dX8_image_25 : decode cX8_image 25 = .ok (.iastore, 1) := dk_79 (dk_at dksX8_image_1 1 rfl rfl)
theorem dX8_image_26 : decode cX8_image 26 = .ok (.iinc 1 1, 3) := dk_132 1 1 (dk_at dksX8_image_1 2 rfl rfl)
theorem dX8_image_29 : decode cX8_image 29 = .ok (.goto (-22), 3) := dk_167 255 234 (dk_at dksX8_image_1 5 rfl rfl)
theorem dX8_image_32 : decode cX8_image 32 = .ok (.aload_n 0, 1) := dk_42 (dk_at dksX8_image_1 8 rfl rfl)
theorem dX8_image_33 : decode cX8_image 33 = .ok (.iconst 1, 1) := dk_4 (dk_at dksX8_image_1 9 rfl rfl)
theorem dX8_image_34 : decode cX8_image 34 = .ok (.putfield 381, 3) := dk_181 1 125 (dk_at dksX8_image_1 10 rfl rfl)
theorem dX8_image_37 : decode cX8_image 37 = .ok (.return_, 1) := dk_177 (dk_at dksX8_image_1 13 rfl rfl)
abbrev cX8_back : ByteArray := prog_21_method_128_code
def yX8_back : MethodName := ⟨RX8, "back", "()Z"⟩
def dkwX8_back_1 : List UInt8 := [180, 0, 7, 27, 42, 180, 0, 13, 27, 46, 79, 132, 1, 1, 167, 255, 234, 42, 3, 181, 0, 182, 4, 172]
abbrev dktX8_back_1 : List UInt8 := dkwX8_back_1 ++ []
def dkwX8_back_0 : List UInt8 := [42, 3, 181, 0, 50, 42, 180, 1, 125, 154, 0, 5, 3, 172, 3, 60, 27, 17, 3, 216, 162, 0, 21, 42]
abbrev dktX8_back_0 : List UInt8 := dkwX8_back_0 ++ dktX8_back_1
theorem dksX8_back_0 : cX8_back.data.toList.drop 0 = dktX8_back_0 := by decide +kernel
theorem dksX8_back_1 : cX8_back.data.toList.drop 24 = dktX8_back_1 := dk_seg dksX8_back_0 24 rfl rfl
theorem dX8_back_0 : decode cX8_back 0 = .ok (.aload_n 0, 1) := dk_42 (dk_at dksX8_back_0 0 rfl rfl)
theorem dX8_back_1 : decode cX8_back 1 = .ok (.iconst 0, 1) := dk_3 (dk_at dksX8_back_0 1 rfl rfl)
theorem dX8_back_2 : decode cX8_back 2 = .ok (.putfield 50, 3) := dk_181 0 50 (dk_at dksX8_back_0 2 rfl rfl)
theorem dX8_back_5 : decode cX8_back 5 = .ok (.aload_n 0, 1) := dk_42 (dk_at dksX8_back_0 5 rfl rfl)
theorem dX8_back_6 : decode cX8_back 6 = .ok (.getfield 381, 3) := dk_180 1 125 (dk_at dksX8_back_0 6 rfl rfl)
theorem dX8_back_9 : decode cX8_back 9 = .ok (.ifCond .ne 5, 3) := dk_154 0 5 (dk_at dksX8_back_0 9 rfl rfl)
theorem dX8_back_12 : decode cX8_back 12 = .ok (.iconst 0, 1) := dk_3 (dk_at dksX8_back_0 12 rfl rfl)
theorem dX8_back_13 : decode cX8_back 13 = .ok (.ireturn, 1) := dk_172 (dk_at dksX8_back_0 13 rfl rfl)
theorem dX8_back_14 : decode cX8_back 14 = .ok (.iconst 0, 1) := dk_3 (dk_at dksX8_back_0 14 rfl rfl)
theorem dX8_back_15 : decode cX8_back 15 = .ok (.istore_n 1, 1) := dk_60 (dk_at dksX8_back_0 15 rfl rfl)
theorem dX8_back_16 : decode cX8_back 16 = .ok (.iload_n 1, 1) := dk_27 (dk_at dksX8_back_0 16 rfl rfl)
theorem dX8_back_17 : decode cX8_back 17 = .ok (.sipush 984, 3) := dk_17 3 216 (dk_at dksX8_back_0 17 rfl rfl)
theorem dX8_back_20 : decode cX8_back 20 = .ok (.if_icmp .ge 21, 3) := dk_162 0 21 (dk_at dksX8_back_0 20 rfl rfl)
theorem dX8_back_23 : decode cX8_back 23 = .ok (.aload_n 0, 1) := dk_42 (dk_at dksX8_back_0 23 rfl rfl)
theorem dX8_back_24 : decode cX8_back 24 = .ok (.getfield 7, 3) := dk_180 0 7 (dk_at dksX8_back_1 0 rfl rfl)
theorem dX8_back_27 : decode cX8_back 27 = .ok (.iload_n 1, 1) := dk_27 (dk_at dksX8_back_1 3 rfl rfl)
theorem dX8_back_28 : decode cX8_back 28 = .ok (.aload_n 0, 1) := dk_42 (dk_at dksX8_back_1 4 rfl rfl)
theorem dX8_back_29 : decode cX8_back 29 = .ok (.getfield 13, 3) := dk_180 0 13 (dk_at dksX8_back_1 5 rfl rfl)
theorem dX8_back_32 : decode cX8_back 32 = .ok (.iload_n 1, 1) := dk_27 (dk_at dksX8_back_1 8 rfl rfl)
theorem dX8_back_33 : decode cX8_back 33 = .ok (.iaload, 1) := dk_46 (dk_at dksX8_back_1 9 rfl rfl)
theorem dX8_back_34 : decode cX8_back 34 = .ok (.iastore, 1) := dk_79 (dk_at dksX8_back_1 10 rfl rfl)
theorem dX8_back_35 : decode cX8_back 35 = .ok (.iinc 1 1, 3) := dk_132 1 1 (dk_at dksX8_back_1 11 rfl rfl)
theorem dX8_back_38 : decode cX8_back 38 = .ok (.goto (-22), 3) := dk_167 255 234 (dk_at dksX8_back_1 14 rfl rfl)
theorem dX8_back_41 : decode cX8_back 41 = .ok (.aload_n 0, 1) := dk_42 (dk_at dksX8_back_1 17 rfl rfl)
theorem dX8_back_42 : decode cX8_back 42 = .ok (.iconst 0, 1) := dk_3 (dk_at dksX8_back_1 18 rfl rfl)
theorem dX8_back_43 : decode cX8_back 43 = .ok (.putfield 182, 3) := dk_181 0 182 (dk_at dksX8_back_1 19 rfl rfl)
theorem dX8_back_46 : decode cX8_back 46 = .ok (.iconst 1, 1) := dk_4 (dk_at dksX8_back_1 22 rfl rfl)
theorem dX8_back_47 : decode cX8_back 47 = .ok (.ireturn, 1) := dk_172 (dk_at dksX8_back_1 23 rfl rfl)
abbrev cX8_count : ByteArray := prog_21_method_130_code
def yX8_count : MethodName := ⟨RX8, "count", "(I)I"⟩
def dkwX8_count_5 : List UInt8 := [180, 0, 7, 16, 8, 46, 172, 27, 16, 11, 160, 0, 10, 42, 180, 0, 182, 167, 0, 4, 2, 172]
abbrev dktX8_count_5 : List UInt8 := dkwX8_count_5 ++ []
def dkwX8_count_4 : List UInt8 := [182, 1, 47, 172, 27, 16, 9, 160, 0, 8, 42, 182, 1, 128, 172, 27, 16, 10, 160, 0, 11, 42]
abbrev dktX8_count_4 : List UInt8 := dkwX8_count_4 ++ dktX8_count_5
def dkwX8_count_3 : List UInt8 := [184, 0, 53, 153, 0, 14, 42, 180, 0, 7, 8, 27, 96, 8, 100, 46, 172, 27, 16, 8, 160, 0, 8, 42]
abbrev dktX8_count_3 : List UInt8 := dkwX8_count_3 ++ dktX8_count_4
def dkwX8_count_2 : List UInt8 := [180, 0, 7, 3, 46, 172, 27, 7, 160, 0, 10, 42, 180, 0, 7, 4, 46, 172, 27, 8, 16, 7]
abbrev dktX8_count_2 : List UInt8 := dkwX8_count_2 ++ dktX8_count_3
def dkwX8_count_1 : List UInt8 := [180, 0, 7, 7, 46, 172, 27, 5, 160, 0, 8, 42, 182, 0, 245, 172, 27, 6, 160, 0, 10, 42]
abbrev dktX8_count_1 : List UInt8 := dkwX8_count_1 ++ dktX8_count_2
def dkwX8_count_0 : List UInt8 := [42, 3, 181, 0, 50, 27, 154, 0, 10, 42, 180, 0, 7, 6, 46, 172, 27, 4, 160, 0, 10, 42]
abbrev dktX8_count_0 : List UInt8 := dkwX8_count_0 ++ dktX8_count_1
theorem dksX8_count_0 : cX8_count.data.toList.drop 0 = dktX8_count_0 := by decide +kernel
theorem dksX8_count_1 : cX8_count.data.toList.drop 22 = dktX8_count_1 := dk_seg dksX8_count_0 22 rfl rfl
theorem dksX8_count_2 : cX8_count.data.toList.drop 44 = dktX8_count_2 := dk_seg dksX8_count_1 22 rfl rfl
theorem dksX8_count_3 : cX8_count.data.toList.drop 66 = dktX8_count_3 := dk_seg dksX8_count_2 22 rfl rfl
theorem dksX8_count_4 : cX8_count.data.toList.drop 90 = dktX8_count_4 := dk_seg dksX8_count_3 24 rfl rfl
theorem dksX8_count_5 : cX8_count.data.toList.drop 112 = dktX8_count_5 := dk_seg dksX8_count_4 22 rfl rfl
theorem dX8_count_0 : decode cX8_count 0 = .ok (.aload_n 0, 1) := dk_42 (dk_at dksX8_count_0 0 rfl rfl)
theorem dX8_count_1 : decode cX8_count 1 = .ok (.iconst 0, 1) := dk_3 (dk_at dksX8_count_0 1 rfl rfl)
theorem dX8_count_2 : decode cX8_count 2 = .ok (.putfield 50, 3) := dk_181 0 50 (dk_at dksX8_count_0 2 rfl rfl)
theorem dX8_count_5 : decode cX8_count 5 = .ok (.iload_n 1, 1) := dk_27 (dk_at dksX8_count_0 5 rfl rfl)
theorem dX8_count_6 : decode cX8_count 6 = .ok (.ifCond .ne 10, 3) := dk_154 0 10 (dk_at dksX8_count_0 6 rfl rfl)
theorem dX8_count_9 : decode cX8_count 9 = .ok (.aload_n 0, 1) := dk_42 (dk_at dksX8_count_0 9 rfl rfl)
theorem dX8_count_10 : decode cX8_count 10 = .ok (.getfield 7, 3) := dk_180 0 7 (dk_at dksX8_count_0 10 rfl rfl)
theorem dX8_count_13 : decode cX8_count 13 = .ok (.iconst 3, 1) := dk_6 (dk_at dksX8_count_0 13 rfl rfl)
theorem dX8_count_14 : decode cX8_count 14 = .ok (.iaload, 1) := dk_46 (dk_at dksX8_count_0 14 rfl rfl)
theorem dX8_count_15 : decode cX8_count 15 = .ok (.ireturn, 1) := dk_172 (dk_at dksX8_count_0 15 rfl rfl)
theorem dX8_count_16 : decode cX8_count 16 = .ok (.iload_n 1, 1) := dk_27 (dk_at dksX8_count_0 16 rfl rfl)
theorem dX8_count_17 : decode cX8_count 17 = .ok (.iconst 1, 1) := dk_4 (dk_at dksX8_count_0 17 rfl rfl)
theorem dX8_count_18 : decode cX8_count 18 = .ok (.if_icmp .ne 10, 3) := dk_160 0 10 (dk_at dksX8_count_0 18 rfl rfl)
theorem dX8_count_21 : decode cX8_count 21 = .ok (.aload_n 0, 1) := dk_42 (dk_at dksX8_count_0 21 rfl rfl)
theorem dX8_count_22 : decode cX8_count 22 = .ok (.getfield 7, 3) := dk_180 0 7 (dk_at dksX8_count_1 0 rfl rfl)
theorem dX8_count_25 : decode cX8_count 25 = .ok (.iconst 4, 1) := dk_7 (dk_at dksX8_count_1 3 rfl rfl)
theorem dX8_count_26 : decode cX8_count 26 = .ok (.iaload, 1) := dk_46 (dk_at dksX8_count_1 4 rfl rfl)
theorem dX8_count_27 : decode cX8_count 27 = .ok (.ireturn, 1) := dk_172 (dk_at dksX8_count_1 5 rfl rfl)
theorem dX8_count_28 : decode cX8_count 28 = .ok (.iload_n 1, 1) := dk_27 (dk_at dksX8_count_1 6 rfl rfl)
theorem dX8_count_29 : decode cX8_count 29 = .ok (.iconst 2, 1) := dk_5 (dk_at dksX8_count_1 7 rfl rfl)
theorem dX8_count_30 : decode cX8_count 30 = .ok (.if_icmp .ne 8, 3) := dk_160 0 8 (dk_at dksX8_count_1 8 rfl rfl)
theorem dX8_count_33 : decode cX8_count 33 = .ok (.aload_n 0, 1) := dk_42 (dk_at dksX8_count_1 11 rfl rfl)
theorem dX8_count_34 : decode cX8_count 34 = .ok (.invokevirtual 245, 3) := dk_182 0 245 (dk_at dksX8_count_1 12 rfl rfl)
theorem dX8_count_37 : decode cX8_count 37 = .ok (.ireturn, 1) := dk_172 (dk_at dksX8_count_1 15 rfl rfl)
theorem dX8_count_38 : decode cX8_count 38 = .ok (.iload_n 1, 1) := dk_27 (dk_at dksX8_count_1 16 rfl rfl)
theorem dX8_count_39 : decode cX8_count 39 = .ok (.iconst 3, 1) := dk_6 (dk_at dksX8_count_1 17 rfl rfl)
theorem dX8_count_40 : decode cX8_count 40 = .ok (.if_icmp .ne 10, 3) := dk_160 0 10 (dk_at dksX8_count_1 18 rfl rfl)
theorem dX8_count_43 : decode cX8_count 43 = .ok (.aload_n 0, 1) := dk_42 (dk_at dksX8_count_1 21 rfl rfl)
theorem dX8_count_44 : decode cX8_count 44 = .ok (.getfield 7, 3) := dk_180 0 7 (dk_at dksX8_count_2 0 rfl rfl)
theorem dX8_count_47 : decode cX8_count 47 = .ok (.iconst 0, 1) := dk_3 (dk_at dksX8_count_2 3 rfl rfl)
theorem dX8_count_48 : decode cX8_count 48 = .ok (.iaload, 1) := dk_46 (dk_at dksX8_count_2 4 rfl rfl)
theorem dX8_count_49 : decode cX8_count 49 = .ok (.ireturn, 1) := dk_172 (dk_at dksX8_count_2 5 rfl rfl)
theorem dX8_count_50 : decode cX8_count 50 = .ok (.iload_n 1, 1) := dk_27 (dk_at dksX8_count_2 6 rfl rfl)
theorem dX8_count_51 : decode cX8_count 51 = .ok (.iconst 4, 1) := dk_7 (dk_at dksX8_count_2 7 rfl rfl)
theorem dX8_count_52 : decode cX8_count 52 = .ok (.if_icmp .ne 10, 3) := dk_160 0 10 (dk_at dksX8_count_2 8 rfl rfl)
theorem dX8_count_55 : decode cX8_count 55 = .ok (.aload_n 0, 1) := dk_42 (dk_at dksX8_count_2 11 rfl rfl)
theorem dX8_count_56 : decode cX8_count 56 = .ok (.getfield 7, 3) := dk_180 0 7 (dk_at dksX8_count_2 12 rfl rfl)
theorem dX8_count_59 : decode cX8_count 59 = .ok (.iconst 1, 1) := dk_4 (dk_at dksX8_count_2 15 rfl rfl)
theorem dX8_count_60 : decode cX8_count 60 = .ok (.iaload, 1) := dk_46 (dk_at dksX8_count_2 16 rfl rfl)
theorem dX8_count_61 : decode cX8_count 61 = .ok (.ireturn, 1) := dk_172 (dk_at dksX8_count_2 17 rfl rfl)
theorem dX8_count_62 : decode cX8_count 62 = .ok (.iload_n 1, 1) := dk_27 (dk_at dksX8_count_2 18 rfl rfl)
theorem dX8_count_63 : decode cX8_count 63 = .ok (.iconst 5, 1) := dk_8 (dk_at dksX8_count_2 19 rfl rfl)
theorem dX8_count_64 : decode cX8_count 64 = .ok (.bipush 7, 2) := dk_16 7 (dk_at dksX8_count_2 20 rfl rfl)
theorem dX8_count_66 : decode cX8_count 66 = .ok (.invokestatic 53, 3) := dk_184 0 53 (dk_at dksX8_count_3 0 rfl rfl)
theorem dX8_count_69 : decode cX8_count 69 = .ok (.ifCond .eq 14, 3) := dk_153 0 14 (dk_at dksX8_count_3 3 rfl rfl)
theorem dX8_count_72 : decode cX8_count 72 = .ok (.aload_n 0, 1) := dk_42 (dk_at dksX8_count_3 6 rfl rfl)
theorem dX8_count_73 : decode cX8_count 73 = .ok (.getfield 7, 3) := dk_180 0 7 (dk_at dksX8_count_3 7 rfl rfl)
theorem dX8_count_76 : decode cX8_count 76 = .ok (.iconst 5, 1) := dk_8 (dk_at dksX8_count_3 10 rfl rfl)
theorem dX8_count_77 : decode cX8_count 77 = .ok (.iload_n 1, 1) := dk_27 (dk_at dksX8_count_3 11 rfl rfl)
theorem dX8_count_78 : decode cX8_count 78 = .ok (.iadd, 1) := dk_96 (dk_at dksX8_count_3 12 rfl rfl)
theorem dX8_count_79 : decode cX8_count 79 = .ok (.iconst 5, 1) := dk_8 (dk_at dksX8_count_3 13 rfl rfl)
theorem dX8_count_80 : decode cX8_count 80 = .ok (.isub, 1) := dk_100 (dk_at dksX8_count_3 14 rfl rfl)
theorem dX8_count_81 : decode cX8_count 81 = .ok (.iaload, 1) := dk_46 (dk_at dksX8_count_3 15 rfl rfl)
theorem dX8_count_82 : decode cX8_count 82 = .ok (.ireturn, 1) := dk_172 (dk_at dksX8_count_3 16 rfl rfl)
theorem dX8_count_83 : decode cX8_count 83 = .ok (.iload_n 1, 1) := dk_27 (dk_at dksX8_count_3 17 rfl rfl)
theorem dX8_count_84 : decode cX8_count 84 = .ok (.bipush 8, 2) := dk_16 8 (dk_at dksX8_count_3 18 rfl rfl)
theorem dX8_count_86 : decode cX8_count 86 = .ok (.if_icmp .ne 8, 3) := dk_160 0 8 (dk_at dksX8_count_3 20 rfl rfl)
theorem dX8_count_89 : decode cX8_count 89 = .ok (.aload_n 0, 1) := dk_42 (dk_at dksX8_count_3 23 rfl rfl)
theorem dX8_count_90 : decode cX8_count 90 = .ok (.invokevirtual 303, 3) := dk_182 1 47 (dk_at dksX8_count_4 0 rfl rfl)
theorem dX8_count_93 : decode cX8_count 93 = .ok (.ireturn, 1) := dk_172 (dk_at dksX8_count_4 3 rfl rfl)
theorem dX8_count_94 : decode cX8_count 94 = .ok (.iload_n 1, 1) := dk_27 (dk_at dksX8_count_4 4 rfl rfl)
theorem dX8_count_95 : decode cX8_count 95 = .ok (.bipush 9, 2) := dk_16 9 (dk_at dksX8_count_4 5 rfl rfl)
theorem dX8_count_97 : decode cX8_count 97 = .ok (.if_icmp .ne 8, 3) := dk_160 0 8 (dk_at dksX8_count_4 7 rfl rfl)
theorem dX8_count_100 : decode cX8_count 100 = .ok (.aload_n 0, 1) := dk_42 (dk_at dksX8_count_4 10 rfl rfl)
theorem dX8_count_101 : decode cX8_count 101 = .ok (.invokevirtual 384, 3) := dk_182 1 128 (dk_at dksX8_count_4 11 rfl rfl)
theorem dX8_count_104 : decode cX8_count 104 = .ok (.ireturn, 1) := dk_172 (dk_at dksX8_count_4 14 rfl rfl)
theorem dX8_count_105 : decode cX8_count 105 = .ok (.iload_n 1, 1) := dk_27 (dk_at dksX8_count_4 15 rfl rfl)
theorem dX8_count_106 : decode cX8_count 106 = .ok (.bipush 10, 2) := dk_16 10 (dk_at dksX8_count_4 16 rfl rfl)
theorem dX8_count_108 : decode cX8_count 108 = .ok (.if_icmp .ne 11, 3) := dk_160 0 11 (dk_at dksX8_count_4 18 rfl rfl)
theorem dX8_count_111 : decode cX8_count 111 = .ok (.aload_n 0, 1) := dk_42 (dk_at dksX8_count_4 21 rfl rfl)
theorem dX8_count_112 : decode cX8_count 112 = .ok (.getfield 7, 3) := dk_180 0 7 (dk_at dksX8_count_5 0 rfl rfl)
theorem dX8_count_115 : decode cX8_count 115 = .ok (.bipush 8, 2) := dk_16 8 (dk_at dksX8_count_5 3 rfl rfl)
theorem dX8_count_117 : decode cX8_count 117 = .ok (.iaload, 1) := dk_46 (dk_at dksX8_count_5 5 rfl rfl)
theorem dX8_count_118 : decode cX8_count 118 = .ok (.ireturn, 1) := dk_172 (dk_at dksX8_count_5 6 rfl rfl)
theorem dX8_count_119 : decode cX8_count 119 = .ok (.iload_n 1, 1) := dk_27 (dk_at dksX8_count_5 7 rfl rfl)
theorem dX8_count_120 : decode cX8_count 120 = .ok (.bipush 11, 2) := dk_16 11 (dk_at dksX8_count_5 8 rfl rfl)
theorem dX8_count_122 : decode cX8_count 122 = .ok (.if_icmp .ne 10, 3) := dk_160 0 10 (dk_at dksX8_count_5 10 rfl rfl)
theorem dX8_count_125 : decode cX8_count 125 = .ok (.aload_n 0, 1) := dk_42 (dk_at dksX8_count_5 13 rfl rfl)
theorem dX8_count_126 : decode cX8_count 126 = .ok (.getfield 182, 3) := dk_180 0 182 (dk_at dksX8_count_5 14 rfl rfl)
theorem dX8_count_129 : decode cX8_count 129 = .ok (.goto 4, 3) := dk_167 0 4 (dk_at dksX8_count_5 17 rfl rfl)
theorem dX8_count_132 : decode cX8_count 132 = .ok (.iconst (-1), 1) := dk_2 (dk_at dksX8_count_5 20 rfl rfl)
theorem dX8_count_133 : decode cX8_count 133 = .ok (.ireturn, 1) := dk_172 (dk_at dksX8_count_5 21 rfl rfl)
abbrev cX8_marksNow : ByteArray := prog_21_method_129_code
def yX8_marksNow : MethodName := ⟨RX8, "marksNow", "()I"⟩
def dkwX8_marksNow_1 : List UInt8 := [96, 60, 132, 2, 1, 167, 255, 231, 27, 172]
abbrev dktX8_marksNow_1 : List UInt8 := dkwX8_marksNow_1 ++ []
def dkwX8_marksNow_0 : List UInt8 := [3, 60, 3, 61, 28, 42, 180, 0, 7, 6, 46, 162, 0, 21, 27, 42, 28, 3, 182, 0, 57, 184, 0, 242]
abbrev dktX8_marksNow_0 : List UInt8 := dkwX8_marksNow_0 ++ dktX8_marksNow_1
theorem dksX8_marksNow_0 : cX8_marksNow.data.toList.drop 0 = dktX8_marksNow_0 := by decide +kernel
theorem dksX8_marksNow_1 : cX8_marksNow.data.toList.drop 24 = dktX8_marksNow_1 := dk_seg dksX8_marksNow_0 24 rfl rfl
theorem dX8_marksNow_0 : decode cX8_marksNow 0 = .ok (.iconst 0, 1) := dk_3 (dk_at dksX8_marksNow_0 0 rfl rfl)
theorem dX8_marksNow_1 : decode cX8_marksNow 1 = .ok (.istore_n 1, 1) := dk_60 (dk_at dksX8_marksNow_0 1 rfl rfl)
theorem dX8_marksNow_2 : decode cX8_marksNow 2 = .ok (.iconst 0, 1) := dk_3 (dk_at dksX8_marksNow_0 2 rfl rfl)
theorem dX8_marksNow_3 : decode cX8_marksNow 3 = .ok (.istore_n 2, 1) := dk_61 (dk_at dksX8_marksNow_0 3 rfl rfl)
theorem dX8_marksNow_4 : decode cX8_marksNow 4 = .ok (.iload_n 2, 1) := dk_28 (dk_at dksX8_marksNow_0 4 rfl rfl)
theorem dX8_marksNow_5 : decode cX8_marksNow 5 = .ok (.aload_n 0, 1) := dk_42 (dk_at dksX8_marksNow_0 5 rfl rfl)
theorem dX8_marksNow_6 : decode cX8_marksNow 6 = .ok (.getfield 7, 3) := dk_180 0 7 (dk_at dksX8_marksNow_0 6 rfl rfl)
theorem dX8_marksNow_9 : decode cX8_marksNow 9 = .ok (.iconst 3, 1) := dk_6 (dk_at dksX8_marksNow_0 9 rfl rfl)
theorem dX8_marksNow_10 : decode cX8_marksNow 10 = .ok (.iaload, 1) := dk_46 (dk_at dksX8_marksNow_0 10 rfl rfl)
theorem dX8_marksNow_11 : decode cX8_marksNow 11 = .ok (.if_icmp .ge 21, 3) := dk_162 0 21 (dk_at dksX8_marksNow_0 11 rfl rfl)
theorem dX8_marksNow_14 : decode cX8_marksNow 14 = .ok (.iload_n 1, 1) := dk_27 (dk_at dksX8_marksNow_0 14 rfl rfl)
theorem dX8_marksNow_15 : decode cX8_marksNow 15 = .ok (.aload_n 0, 1) := dk_42 (dk_at dksX8_marksNow_0 15 rfl rfl)
theorem dX8_marksNow_16 : decode cX8_marksNow 16 = .ok (.iload_n 2, 1) := dk_28 (dk_at dksX8_marksNow_0 16 rfl rfl)
theorem dX8_marksNow_17 : decode cX8_marksNow 17 = .ok (.iconst 0, 1) := dk_3 (dk_at dksX8_marksNow_0 17 rfl rfl)
theorem dX8_marksNow_18 : decode cX8_marksNow 18 = .ok (.invokevirtual 57, 3) := dk_182 0 57 (dk_at dksX8_marksNow_0 18 rfl rfl)
theorem dX8_marksNow_21 : decode cX8_marksNow 21 = .ok (.invokestatic 242, 3) := dk_184 0 242 (dk_at dksX8_marksNow_0 21 rfl rfl)
theorem dX8_marksNow_24 : decode cX8_marksNow 24 = .ok (.iadd, 1) := dk_96 (dk_at dksX8_marksNow_1 0 rfl rfl)
theorem dX8_marksNow_25 : decode cX8_marksNow 25 = .ok (.istore_n 1, 1) := dk_60 (dk_at dksX8_marksNow_1 1 rfl rfl)
theorem dX8_marksNow_26 : decode cX8_marksNow 26 = .ok (.iinc 2 1, 3) := dk_132 2 1 (dk_at dksX8_marksNow_1 2 rfl rfl)
theorem dX8_marksNow_29 : decode cX8_marksNow 29 = .ok (.goto (-25), 3) := dk_167 255 231 (dk_at dksX8_marksNow_1 5 rfl rfl)
theorem dX8_marksNow_32 : decode cX8_marksNow 32 = .ok (.iload_n 1, 1) := dk_27 (dk_at dksX8_marksNow_1 8 rfl rfl)
theorem dX8_marksNow_33 : decode cX8_marksNow 33 = .ok (.ireturn, 1) := dk_172 (dk_at dksX8_marksNow_1 9 rfl rfl)
