/-! decode rows of X5 -/
set_option maxRecDepth 100000
abbrev cX5_init : ByteArray := prog_16_method_1_code
def yX5_init : MethodName := ⟨RX5, "<init>", "(LHungFaces;)V"⟩
def dkwX5_init_1 : List UInt8 := [181, 0, 19, 177]
abbrev dktX5_init_1 : List UInt8 := dkwX5_init_1 ++ []
def dkwX5_init_0 : List UInt8 := [42, 43, 181, 0, 3, 42, 183, 0, 9, 42, 16, 10, 188, 10, 181, 0, 15, 42, 16, 10, 188, 10]
abbrev dktX5_init_0 : List UInt8 := dkwX5_init_0 ++ dktX5_init_1
theorem dksX5_init_0 : cX5_init.data.toList.drop 0 = dktX5_init_0 := by decide +kernel
theorem dksX5_init_1 : cX5_init.data.toList.drop 22 = dktX5_init_1 := dk_seg dksX5_init_0 22 rfl rfl
theorem dX5_init_0 : decode cX5_init 0 = .ok (.aload_n 0, 1) := dk_42 (dk_at dksX5_init_0 0 rfl rfl)
theorem dX5_init_1 : decode cX5_init 1 = .ok (.aload_n 1, 1) := dk_43 (dk_at dksX5_init_0 1 rfl rfl)
theorem dX5_init_2 : decode cX5_init 2 = .ok (.putfield 3, 3) := dk_181 0 3 (dk_at dksX5_init_0 2 rfl rfl)
theorem dX5_init_5 : decode cX5_init 5 = .ok (.aload_n 0, 1) := dk_42 (dk_at dksX5_init_0 5 rfl rfl)
theorem dX5_init_6 : decode cX5_init 6 = .ok (.invokespecial 9, 3) := dk_183 0 9 (dk_at dksX5_init_0 6 rfl rfl)
theorem dX5_init_9 : decode cX5_init 9 = .ok (.aload_n 0, 1) := dk_42 (dk_at dksX5_init_0 9 rfl rfl)
theorem dX5_init_10 : decode cX5_init 10 = .ok (.bipush 10, 2) := dk_16 10 (dk_at dksX5_init_0 10 rfl rfl)
theorem dX5_init_12 : decode cX5_init 12 = .ok (.newarray .int, 2) := dk_188_10 (dk_at dksX5_init_0 12 rfl rfl)
theorem dX5_init_14 : decode cX5_init 14 = .ok (.putfield 15, 3) := dk_181 0 15 (dk_at dksX5_init_0 14 rfl rfl)
theorem dX5_init_17 : decode cX5_init 17 = .ok (.aload_n 0, 1) := dk_42 (dk_at dksX5_init_0 17 rfl rfl)
theorem dX5_init_18 : decode cX5_init 18 = .ok (.bipush 10, 2) := dk_16 10 (dk_at dksX5_init_0 18 rfl rfl)
theorem dX5_init_20 : decode cX5_init 20 = .ok (.newarray .int, 2) := dk_188_10 (dk_at dksX5_init_0 20 rfl rfl)
theorem dX5_init_22 : decode cX5_init 22 = .ok (.putfield 19, 3) := dk_181 0 19 (dk_at dksX5_init_1 0 rfl rfl)
theorem dX5_init_25 : decode cX5_init 25 = .ok (.return_, 1) := dk_177 (dk_at dksX5_init_1 3 rfl rfl)
abbrev cX5_run : ByteArray := prog_16_method_2_code
def yX5_run : MethodName := ⟨RX5, "run", "()LHungFaces$Trade;"⟩
def dkwX5_run_8 : List UInt8 := [181, 0, 28, 167, 255, 131, 42, 176]
abbrev dktX5_run_8 : List UInt8 := dkwX5_run_8 ++ []
def dkwX5_run_7 : List UInt8 := [180, 0, 19, 28, 46, 46, 79, 132, 2, 1, 167, 255, 208, 42, 89, 180, 0, 28, 27, 2, 130, 126]
abbrev dktX5_run_7 : List UInt8 := dkwX5_run_7 ++ dktX5_run_8
def dkwX5_run_6 : List UInt8 := [27, 28, 184, 0, 44, 153, 0, 26, 42, 180, 0, 15, 28, 42, 180, 0, 3, 180, 0, 32, 180, 0, 41, 42]
abbrev dktX5_run_6 : List UInt8 := dkwX5_run_6 ++ dktX5_run_7
def dkwX5_run_5 : List UInt8 := [167, 255, 213, 42, 182, 0, 52, 60, 3, 61, 28, 42, 180, 0, 3, 180, 0, 32, 180, 0, 36, 162, 0, 40]
abbrev dktX5_run_5 : List UInt8 := dkwX5_run_5 ++ dktX5_run_6
def dkwX5_run_4 : List UInt8 := [42, 180, 0, 28, 27, 184, 0, 44, 153, 0, 11, 42, 27, 182, 0, 48, 167, 0, 4, 2, 79, 132, 1, 1]
abbrev dktX5_run_4 : List UInt8 := dkwX5_run_4 ++ dktX5_run_5
def dkwX5_run_3 : List UInt8 := [153, 0, 124, 3, 60, 27, 42, 180, 0, 3, 180, 0, 32, 180, 0, 36, 162, 0, 35, 42, 180, 0, 19, 27]
abbrev dktX5_run_3 : List UInt8 := dkwX5_run_3 ++ dktX5_run_4
def dkwX5_run_2 : List UInt8 := [159, 0, 9, 4, 27, 120, 167, 0, 4, 3, 128, 181, 0, 28, 132, 1, 1, 167, 255, 207, 42, 180, 0, 28]
abbrev dktX5_run_2 : List UInt8 := dkwX5_run_2 ++ dktX5_run_3
def dkwX5_run_1 : List UInt8 := [180, 0, 36, 162, 0, 41, 42, 89, 180, 0, 28, 42, 180, 0, 3, 180, 0, 32, 180, 0, 41, 27, 46, 2]
abbrev dktX5_run_1 : List UInt8 := dkwX5_run_1 ++ dktX5_run_2
def dkwX5_run_0 : List UInt8 := [42, 180, 0, 15, 2, 184, 0, 22, 42, 3, 181, 0, 28, 3, 60, 27, 42, 180, 0, 3, 180, 0, 32]
abbrev dktX5_run_0 : List UInt8 := dkwX5_run_0 ++ dktX5_run_1
theorem dksX5_run_0 : cX5_run.data.toList.drop 0 = dktX5_run_0 := by decide +kernel
theorem dksX5_run_1 : cX5_run.data.toList.drop 23 = dktX5_run_1 := dk_seg dksX5_run_0 23 rfl rfl
theorem dksX5_run_2 : cX5_run.data.toList.drop 47 = dktX5_run_2 := dk_seg dksX5_run_1 24 rfl rfl
theorem dksX5_run_3 : cX5_run.data.toList.drop 71 = dktX5_run_3 := dk_seg dksX5_run_2 24 rfl rfl
theorem dksX5_run_4 : cX5_run.data.toList.drop 95 = dktX5_run_4 := dk_seg dksX5_run_3 24 rfl rfl
theorem dksX5_run_5 : cX5_run.data.toList.drop 119 = dktX5_run_5 := dk_seg dksX5_run_4 24 rfl rfl
theorem dksX5_run_6 : cX5_run.data.toList.drop 143 = dktX5_run_6 := dk_seg dksX5_run_5 24 rfl rfl
theorem dksX5_run_7 : cX5_run.data.toList.drop 167 = dktX5_run_7 := dk_seg dksX5_run_6 24 rfl rfl
theorem dksX5_run_8 : cX5_run.data.toList.drop 189 = dktX5_run_8 := dk_seg dksX5_run_7 22 rfl rfl
theorem dX5_run_0 : decode cX5_run 0 = .ok (.aload_n 0, 1) := dk_42 (dk_at dksX5_run_0 0 rfl rfl)
theorem dX5_run_1 : decode cX5_run 1 = .ok (.getfield 15, 3) := dk_180 0 15 (dk_at dksX5_run_0 1 rfl rfl)
theorem dX5_run_4 : decode cX5_run 4 = .ok (.iconst (-1), 1) := dk_2 (dk_at dksX5_run_0 4 rfl rfl)
theorem dX5_run_5 : decode cX5_run 5 = .ok (.invokestatic 22, 3) := dk_184 0 22 (dk_at dksX5_run_0 5 rfl rfl)
theorem dX5_run_8 : decode cX5_run 8 = .ok (.aload_n 0, 1) := dk_42 (dk_at dksX5_run_0 8 rfl rfl)
theorem dX5_run_9 : decode cX5_run 9 = .ok (.iconst 0, 1) := dk_3 (dk_at dksX5_run_0 9 rfl rfl)
theorem dX5_run_10 : decode cX5_run 10 = .ok (.putfield 28, 3) := dk_181 0 28 (dk_at dksX5_run_0 10 rfl rfl)
theorem dX5_run_13 : decode cX5_run 13 = .ok (.iconst 0, 1) := dk_3 (dk_at dksX5_run_0 13 rfl rfl)
theorem dX5_run_14 : decode cX5_run 14 = .ok (.istore_n 1, 1) := dk_60 (dk_at dksX5_run_0 14 rfl rfl)
theorem dX5_run_15 : decode cX5_run 15 = .ok (.iload_n 1, 1) := dk_27 (dk_at dksX5_run_0 15 rfl rfl)
theorem dX5_run_16 : decode cX5_run 16 = .ok (.aload_n 0, 1) := dk_42 (dk_at dksX5_run_0 16 rfl rfl)
theorem dX5_run_17 : decode cX5_run 17 = .ok (.getfield 3, 3) := dk_180 0 3 (dk_at dksX5_run_0 17 rfl rfl)
theorem dX5_run_20 : decode cX5_run 20 = .ok (.getfield 32, 3) := dk_180 0 32 (dk_at dksX5_run_0 20 rfl rfl)
theorem dX5_run_23 : decode cX5_run 23 = .ok (.getfield 36, 3) := dk_180 0 36 (dk_at dksX5_run_1 0 rfl rfl)
theorem dX5_run_26 : decode cX5_run 26 = .ok (.if_icmp .ge 41, 3) := dk_162 0 41 (dk_at dksX5_run_1 3 rfl rfl)
theorem dX5_run_29 : decode cX5_run 29 = .ok (.aload_n 0, 1) := dk_42 (dk_at dksX5_run_1 6 rfl rfl)
theorem dX5_run_30 : decode cX5_run 30 = .ok (.dup, 1) := dk_89 (dk_at dksX5_run_1 7 rfl rfl)
theorem dX5_run_31 : decode cX5_run 31 = .ok (.getfield 28, 3) := dk_180 0 28 (dk_at dksX5_run_1 8 rfl rfl)
theorem dX5_run_34 : decode cX5_run 34 = .ok (.aload_n 0, 1) := dk_42 (dk_at dksX5_run_1 11 rfl rfl)
theorem dX5_run_35 : decode cX5_run 35 = .ok (.getfield 3, 3) := dk_180 0 3 (dk_at dksX5_run_1 12 rfl rfl)
theorem dX5_run_38 : decode cX5_run 38 = .ok (.getfield 32, 3) := dk_180 0 32 (dk_at dksX5_run_1 15 rfl rfl)
theorem dX5_run_41 : decode cX5_run 41 = .ok (.getfield 41, 3) := dk_180 0 41 (dk_at dksX5_run_1 18 rfl rfl)
theorem dX5_run_44 : decode cX5_run 44 = .ok (.iload_n 1, 1) := dk_27 (dk_at dksX5_run_1 21 rfl rfl)
theorem dX5_run_45 : decode cX5_run 45 = .ok (.iaload, 1) := dk_46 (dk_at dksX5_run_1 22 rfl rfl)
theorem dX5_run_46 : decode cX5_run 46 = .ok (.iconst (-1), 1) := dk_2 (dk_at dksX5_run_1 23 rfl rfl)
theorem dX5_run_47 : decode cX5_run 47 = .ok (.if_icmp .eq 9, 3) := dk_159 0 9 (dk_at dksX5_run_2 0 rfl rfl)
theorem dX5_run_50 : decode cX5_run 50 = .ok (.iconst 1, 1) := dk_4 (dk_at dksX5_run_2 3 rfl rfl)
theorem dX5_run_51 : decode cX5_run 51 = .ok (.iload_n 1, 1) := dk_27 (dk_at dksX5_run_2 4 rfl rfl)
theorem dX5_run_52 : decode cX5_run 52 = .ok (.ishl, 1) := dk_120 (dk_at dksX5_run_2 5 rfl rfl)
theorem dX5_run_53 : decode cX5_run 53 = .ok (.goto 4, 3) := dk_167 0 4 (dk_at dksX5_run_2 6 rfl rfl)
theorem dX5_run_56 : decode cX5_run 56 = .ok (.iconst 0, 1) := dk_3 (dk_at dksX5_run_2 9 rfl rfl)
theorem dX5_run_57 : decode cX5_run 57 = .ok (.ior, 1) := dk_128 (dk_at dksX5_run_2 10 rfl rfl)
theorem dX5_run_58 : decode cX5_run 58 = .ok (.putfield 28, 3) := dk_181 0 28 (dk_at dksX5_run_2 11 rfl rfl)
theorem dX5_run_61 : decode cX5_run 61 = .ok (.iinc 1 1, 3) := dk_132 1 1 (dk_at dksX5_run_2 14 rfl rfl)
theorem dX5_run_64 : decode cX5_run 64 = .ok (.goto (-49), 3) := dk_167 255 207 (dk_at dksX5_run_2 17 rfl rfl)
theorem dX5_run_67 : decode cX5_run 67 = .ok (.aload_n 0, 1) := dk_42 (dk_at dksX5_run_2 20 rfl rfl)
theorem dX5_run_68 : decode cX5_run 68 = .ok (.getfield 28, 3) := dk_180 0 28 (dk_at dksX5_run_2 21 rfl rfl)
theorem dX5_run_71 : decode cX5_run 71 = .ok (.ifCond .eq 124, 3) := dk_153 0 124 (dk_at dksX5_run_3 0 rfl rfl)
theorem dX5_run_74 : decode cX5_run 74 = .ok (.iconst 0, 1) := dk_3 (dk_at dksX5_run_3 3 rfl rfl)
theorem dX5_run_75 : decode cX5_run 75 = .ok (.istore_n 1, 1) := dk_60 (dk_at dksX5_run_3 4 rfl rfl)
theorem dX5_run_76 : decode cX5_run 76 = .ok (.iload_n 1, 1) := dk_27 (dk_at dksX5_run_3 5 rfl rfl)
theorem dX5_run_77 : decode cX5_run 77 = .ok (.aload_n 0, 1) := dk_42 (dk_at dksX5_run_3 6 rfl rfl)
theorem dX5_run_78 : decode cX5_run 78 = .ok (.getfield 3, 3) := dk_180 0 3 (dk_at dksX5_run_3 7 rfl rfl)
theorem dX5_run_81 : decode cX5_run 81 = .ok (.getfield 32, 3) := dk_180 0 32 (dk_at dksX5_run_3 10 rfl rfl)
theorem dX5_run_84 : decode cX5_run 84 = .ok (.getfield 36, 3) := dk_180 0 36 (dk_at dksX5_run_3 13 rfl rfl)
theorem dX5_run_87 : decode cX5_run 87 = .ok (.if_icmp .ge 35, 3) := dk_162 0 35 (dk_at dksX5_run_3 16 rfl rfl)
theorem dX5_run_90 : decode cX5_run 90 = .ok (.aload_n 0, 1) := dk_42 (dk_at dksX5_run_3 19 rfl rfl)
theorem dX5_run_91 : decode cX5_run 91 = .ok (.getfield 19, 3) := dk_180 0 19 (dk_at dksX5_run_3 20 rfl rfl)
theorem dX5_run_94 : decode cX5_run 94 = .ok (.iload_n 1, 1) := dk_27 (dk_at dksX5_run_3 23 rfl rfl)
theorem dX5_run_95 : decode cX5_run 95 = .ok (.aload_n 0, 1) := dk_42 (dk_at dksX5_run_4 0 rfl rfl)
theorem dX5_run_96 : decode cX5_run 96 = .ok (.getfield 28, 3) := dk_180 0 28 (dk_at dksX5_run_4 1 rfl rfl)
theorem dX5_run_99 : decode cX5_run 99 = .ok (.iload_n 1, 1) := dk_27 (dk_at dksX5_run_4 4 rfl rfl)
theorem dX5_run_100 : decode cX5_run 100 = .ok (.invokestatic 44, 3) := dk_184 0 44 (dk_at dksX5_run_4 5 rfl rfl)
theorem dX5_run_103 : decode cX5_run 103 = .ok (.ifCond .eq 11, 3) := dk_153 0 11 (dk_at dksX5_run_4 8 rfl rfl)
theorem dX5_run_106 : decode cX5_run 106 = .ok (.aload_n 0, 1) := dk_42 (dk_at dksX5_run_4 11 rfl rfl)
theorem dX5_run_107 : decode cX5_run 107 = .ok (.iload_n 1, 1) := dk_27 (dk_at dksX5_run_4 12 rfl rfl)
theorem dX5_run_108 : decode cX5_run 108 = .ok (.invokevirtual 48, 3) := dk_182 0 48 (dk_at dksX5_run_4 13 rfl rfl)
theorem dX5_run_111 : decode cX5_run 111 = .ok (.goto 4, 3) := dk_167 0 4 (dk_at dksX5_run_4 16 rfl rfl)
theorem dX5_run_114 : decode cX5_run 114 = .ok (.iconst (-1), 1) := dk_2 (dk_at dksX5_run_4 19 rfl rfl)
theorem dX5_run_115 : decode cX5_run 115 = .ok (.iastore, 1) := dk_79 (dk_at dksX5_run_4 20 rfl rfl)
theorem dX5_run_116 : decode cX5_run 116 = .ok (.iinc 1 1, 3) := dk_132 1 1 (dk_at dksX5_run_4 21 rfl rfl)
theorem dX5_run_119 : decode cX5_run 119 = .ok (.goto (-43), 3) := dk_167 255 213 (dk_at dksX5_run_5 0 rfl rfl)
theorem dX5_run_122 : decode cX5_run 122 = .ok (.aload_n 0, 1) := dk_42 (dk_at dksX5_run_5 3 rfl rfl)
theorem dX5_run_123 : decode cX5_run 123 = .ok (.invokevirtual 52, 3) := dk_182 0 52 (dk_at dksX5_run_5 4 rfl rfl)
theorem dX5_run_126 : decode cX5_run 126 = .ok (.istore_n 1, 1) := dk_60 (dk_at dksX5_run_5 7 rfl rfl)
theorem dX5_run_127 : decode cX5_run 127 = .ok (.iconst 0, 1) := dk_3 (dk_at dksX5_run_5 8 rfl rfl)
theorem dX5_run_128 : decode cX5_run 128 = .ok (.istore_n 2, 1) := dk_61 (dk_at dksX5_run_5 9 rfl rfl)
theorem dX5_run_129 : decode cX5_run 129 = .ok (.iload_n 2, 1) := dk_28 (dk_at dksX5_run_5 10 rfl rfl)
theorem dX5_run_130 : decode cX5_run 130 = .ok (.aload_n 0, 1) := dk_42 (dk_at dksX5_run_5 11 rfl rfl)
theorem dX5_run_131 : decode cX5_run 131 = .ok (.getfield 3, 3) := dk_180 0 3 (dk_at dksX5_run_5 12 rfl rfl)
theorem dX5_run_134 : decode cX5_run 134 = .ok (.getfield 32, 3) := dk_180 0 32 (dk_at dksX5_run_5 15 rfl rfl)
theorem dX5_run_137 : decode cX5_run 137 = .ok (.getfield 36, 3) := dk_180 0 36 (dk_at dksX5_run_5 18 rfl rfl)
theorem dX5_run_140 : decode cX5_run 140 = .ok (.if_icmp .ge 40, 3) := dk_162 0 40 (dk_at dksX5_run_5 21 rfl rfl)
theorem dX5_run_143 : decode cX5_run 143 = .ok (.iload_n 1, 1) := dk_27 (dk_at dksX5_run_6 0 rfl rfl)
theorem dX5_run_144 : decode cX5_run 144 = .ok (.iload_n 2, 1) := dk_28 (dk_at dksX5_run_6 1 rfl rfl)
theorem dX5_run_145 : decode cX5_run 145 = .ok (.invokestatic 44, 3) := dk_184 0 44 (dk_at dksX5_run_6 2 rfl rfl)
theorem dX5_run_148 : decode cX5_run 148 = .ok (.ifCond .eq 26, 3) := dk_153 0 26 (dk_at dksX5_run_6 5 rfl rfl)
theorem dX5_run_151 : decode cX5_run 151 = .ok (.aload_n 0, 1) := dk_42 (dk_at dksX5_run_6 8 rfl rfl)
theorem dX5_run_152 : decode cX5_run 152 = .ok (.getfield 15, 3) := dk_180 0 15 (dk_at dksX5_run_6 9 rfl rfl)
theorem dX5_run_155 : decode cX5_run 155 = .ok (.iload_n 2, 1) := dk_28 (dk_at dksX5_run_6 12 rfl rfl)
theorem dX5_run_156 : decode cX5_run 156 = .ok (.aload_n 0, 1) := dk_42 (dk_at dksX5_run_6 13 rfl rfl)
theorem dX5_run_157 : decode cX5_run 157 = .ok (.getfield 3, 3) := dk_180 0 3 (dk_at dksX5_run_6 14 rfl rfl)
theorem dX5_run_160 : decode cX5_run 160 = .ok (.getfield 32, 3) := dk_180 0 32 (dk_at dksX5_run_6 17 rfl rfl)
theorem dX5_run_163 : decode cX5_run 163 = .ok (.getfield 41, 3) := dk_180 0 41 (dk_at dksX5_run_6 20 rfl rfl)
theorem dX5_run_166 : decode cX5_run 166 = .ok (.aload_n 0, 1) := dk_42 (dk_at dksX5_run_6 23 rfl rfl)
theorem dX5_run_167 : decode cX5_run 167 = .ok (.getfield 19, 3) := dk_180 0 19 (dk_at dksX5_run_7 0 rfl rfl)
theorem dX5_run_170 : decode cX5_run 170 = .ok (.iload_n 2, 1) := dk_28 (dk_at dksX5_run_7 3 rfl rfl)
theorem dX5_run_171 : decode cX5_run 171 = .ok (.iaload, 1) := dk_46 (dk_at dksX5_run_7 4 rfl rfl)
theorem dX5_run_172 : decode cX5_run 172 = .ok (.iaload, 1) := dk_46 (dk_at dksX5_run_7 5 rfl rfl)
theorem dX5_run_173 : decode cX5_run 173 = .ok (.iastore, 1) := dk_79 (dk_at dksX5_run_7 6 rfl rfl)
theorem dX5_run_174 : decode cX5_run 174 = .ok (.iinc 2 1, 3) := dk_132 2 1 (dk_at dksX5_run_7 7 rfl rfl)
theorem dX5_run_177 : decode cX5_run 177 = .ok (.goto (-48), 3) := dk_167 255 208 (dk_at dksX5_run_7 10 rfl rfl)
theorem dX5_run_180 : decode cX5_run 180 = .ok (.aload_n 0, 1) := dk_42 (dk_at dksX5_run_7 13 rfl rfl)
theorem dX5_run_181 : decode cX5_run 181 = .ok (.dup, 1) := dk_89 (dk_at dksX5_run_7 14 rfl rfl)
theorem dX5_run_182 : decode cX5_run 182 = .ok (.getfield 28, 3) := dk_180 0 28 (dk_at dksX5_run_7 15 rfl rfl)
theorem dX5_run_185 : decode cX5_run 185 = .ok (.iload_n 1, 1) := dk_27 (dk_at dksX5_run_7 18 rfl rfl)
theorem dX5_run_186 : decode cX5_run 186 = .ok (.iconst (-1), 1) := dk_2 (dk_at dksX5_run_7 19 rfl rfl)
theorem dX5_run_187 : decode cX5_run 187 = .ok (.ixor, 1) := dk_130 (dk_at dksX5_run_7 20 rfl rfl)
theorem dX5_run_188 : decode cX5_run 188 = .ok (.iand, 1) := dk_126 (dk_at dksX5_run_7 21 rfl rfl)
theorem dX5_run_189 : decode cX5_run 189 = .ok (.putfield 28, 3) := dk_181 0 28 (dk_at dksX5_run_8 0 rfl rfl)
theorem dX5_run_192 : decode cX5_run 192 = .ok (.goto (-125), 3) := dk_167 255 131 (dk_at dksX5_run_8 3 rfl rfl)
theorem dX5_run_195 : decode cX5_run 195 = .ok (.aload_n 0, 1) := dk_42 (dk_at dksX5_run_8 6 rfl rfl)
theorem dX5_run_196 : decode cX5_run 196 = .ok (.areturn, 1) := dk_176 (dk_at dksX5_run_8 7 rfl rfl)
abbrev cX5_dearest : ByteArray := prog_16_method_3_code
def yX5_dearest : MethodName := ⟨RX5, "dearest", "(I)I"⟩
def dkwX5_dearest_2 : List UInt8 := [159, 0, 16, 42, 180, 0, 28, 29, 184, 0, 44, 153, 0, 5, 29, 172, 132, 2, 1, 167, 255, 193, 27, 172]
abbrev dktX5_dearest_2 : List UInt8 := dkwX5_dearest_2 ++ []
def dkwX5_dearest_1 : List UInt8 := [180, 0, 3, 180, 0, 32, 180, 0, 56, 16, 10, 27, 104, 28, 96, 46, 182, 0, 59, 62, 29, 2]
abbrev dktX5_dearest_1 : List UInt8 := dkwX5_dearest_1 ++ dktX5_dearest_2
def dkwX5_dearest_0 : List UInt8 := [3, 61, 28, 42, 180, 0, 3, 180, 0, 32, 180, 0, 36, 162, 0, 55, 42, 180, 0, 3, 180, 0, 32, 42]
abbrev dktX5_dearest_0 : List UInt8 := dkwX5_dearest_0 ++ dktX5_dearest_1
theorem dksX5_dearest_0 : cX5_dearest.data.toList.drop 0 = dktX5_dearest_0 := by decide +kernel
theorem dksX5_dearest_1 : cX5_dearest.data.toList.drop 24 = dktX5_dearest_1 := dk_seg dksX5_dearest_0 24 rfl rfl
theorem dksX5_dearest_2 : cX5_dearest.data.toList.drop 46 = dktX5_dearest_2 := dk_seg dksX5_dearest_1 22 rfl rfl
theorem dX5_dearest_0 : decode cX5_dearest 0 = .ok (.iconst 0, 1) := dk_3 (dk_at dksX5_dearest_0 0 rfl rfl)
theorem dX5_dearest_1 : decode cX5_dearest 1 = .ok (.istore_n 2, 1) := dk_61 (dk_at dksX5_dearest_0 1 rfl rfl)
theorem dX5_dearest_2 : decode cX5_dearest 2 = .ok (.iload_n 2, 1) := dk_28 (dk_at dksX5_dearest_0 2 rfl rfl)
theorem dX5_dearest_3 : decode cX5_dearest 3 = .ok (.aload_n 0, 1) := dk_42 (dk_at dksX5_dearest_0 3 rfl rfl)
theorem dX5_dearest_4 : decode cX5_dearest 4 = .ok (.getfield 3, 3) := dk_180 0 3 (dk_at dksX5_dearest_0 4 rfl rfl)
theorem dX5_dearest_7 : decode cX5_dearest 7 = .ok (.getfield 32, 3) := dk_180 0 32 (dk_at dksX5_dearest_0 7 rfl rfl)
theorem dX5_dearest_10 : decode cX5_dearest 10 = .ok (.getfield 36, 3) := dk_180 0 36 (dk_at dksX5_dearest_0 10 rfl rfl)
theorem dX5_dearest_13 : decode cX5_dearest 13 = .ok (.if_icmp .ge 55, 3) := dk_162 0 55 (dk_at dksX5_dearest_0 13 rfl rfl)
theorem dX5_dearest_16 : decode cX5_dearest 16 = .ok (.aload_n 0, 1) := dk_42 (dk_at dksX5_dearest_0 16 rfl rfl)
theorem dX5_dearest_17 : decode cX5_dearest 17 = .ok (.getfield 3, 3) := dk_180 0 3 (dk_at dksX5_dearest_0 17 rfl rfl)
theorem dX5_dearest_20 : decode cX5_dearest 20 = .ok (.getfield 32, 3) := dk_180 0 32 (dk_at dksX5_dearest_0 20 rfl rfl)
theorem dX5_dearest_23 : decode cX5_dearest 23 = .ok (.aload_n 0, 1) := dk_42 (dk_at dksX5_dearest_0 23 rfl rfl)
theorem dX5_dearest_24 : decode cX5_dearest 24 = .ok (.getfield 3, 3) := dk_180 0 3 (dk_at dksX5_dearest_1 0 rfl rfl)
theorem dX5_dearest_27 : decode cX5_dearest 27 = .ok (.getfield 32, 3) := dk_180 0 32 (dk_at dksX5_dearest_1 3 rfl rfl)
theorem dX5_dearest_30 : decode cX5_dearest 30 = .ok (.getfield 56, 3) := dk_180 0 56 (dk_at dksX5_dearest_1 6 rfl rfl)
theorem dX5_dearest_33 : decode cX5_dearest 33 = .ok (.bipush 10, 2) := dk_16 10 (dk_at dksX5_dearest_1 9 rfl rfl)
theorem dX5_dearest_35 : decode cX5_dearest 35 = .ok (.iload_n 1, 1) := dk_27 (dk_at dksX5_dearest_1 11 rfl rfl)
theorem dX5_dearest_36 : decode cX5_dearest 36 = .ok (.imul, 1) := dk_104 (dk_at dksX5_dearest_1 12 rfl rfl)
theorem dX5_dearest_37 : decode cX5_dearest 37 = .ok (.iload_n 2, 1) := dk_28 (dk_at dksX5_dearest_1 13 rfl rfl)
theorem dX5_dearest_38 : decode cX5_dearest 38 = .ok (.iadd, 1) := dk_96 (dk_at dksX5_dearest_1 14 rfl rfl)
theorem dX5_dearest_39 : decode cX5_dearest 39 = .ok (.iaload, 1) := dk_46 (dk_at dksX5_dearest_1 15 rfl rfl)
theorem dX5_dearest_40 : decode cX5_dearest 40 = .ok (.invokevirtual 59, 3) := dk_182 0 59 (dk_at dksX5_dearest_1 16 rfl rfl)
theorem dX5_dearest_43 : decode cX5_dearest 43 = .ok (.istore_n 3, 1) := dk_62 (dk_at dksX5_dearest_1 19 rfl rfl)
theorem dX5_dearest_44 : decode cX5_dearest 44 = .ok (.iload_n 3, 1) := dk_29 (dk_at dksX5_dearest_1 20 rfl rfl)
theorem dX5_dearest_45 : decode cX5_dearest 45 = .ok (.iconst (-1), 1) := dk_2 (dk_at dksX5_dearest_1 21 rfl rfl)
theorem dX5_dearest_46 : decode cX5_dearest 46 = .ok (.if_icmp .eq 16, 3) := dk_159 0 16 (dk_at dksX5_dearest_2 0 rfl rfl)
theorem dX5_dearest_49 : decode cX5_dearest 49 = .ok (.aload_n 0, 1) := dk_42 (dk_at dksX5_dearest_2 3 rfl rfl)
theorem dX5_dearest_50 : decode cX5_dearest 50 = .ok (.getfield 28, 3) := dk_180 0 28 (dk_at dksX5_dearest_2 4 rfl rfl)
theorem dX5_dearest_53 : decode cX5_dearest 53 = .ok (.iload_n 3, 1) := dk_29 (dk_at dksX5_dearest_2 7 rfl rfl)
theorem dX5_dearest_54 : decode cX5_dearest 54 = .ok (.invokestatic 44, 3) := dk_184 0 44 (dk_at dksX5_dearest_2 8 rfl rfl)
theorem dX5_dearest_57 : decode cX5_dearest 57 = .ok (.ifCond .eq 5, 3) := dk_153 0 5 (dk_at dksX5_dearest_2 11 rfl rfl)
theorem dX5_dearest_60 : decode cX5_dearest 60 = .ok (.iload_n 3, 1) := dk_29 (dk_at dksX5_dearest_2 14 rfl rfl)
theorem dX5_dearest_61 : decode cX5_dearest 61 = .ok (.ireturn, 1) := dk_172 (dk_at dksX5_dearest_2 15 rfl rfl)
theorem dX5_dearest_62 : decode cX5_dearest 62 = .ok (.iinc 2 1, 3) := dk_132 2 1 (dk_at dksX5_dearest_2 16 rfl rfl)
theorem dX5_dearest_65 : decode cX5_dearest 65 = .ok (.goto (-63), 3) := dk_167 255 193 (dk_at dksX5_dearest_2 19 rfl rfl)
theorem dX5_dearest_68 : decode cX5_dearest 68 = .ok (.iload_n 1, 1) := dk_27 (dk_at dksX5_dearest_2 22 rfl rfl)
theorem dX5_dearest_69 : decode cX5_dearest 69 = .ok (.ireturn, 1) := dk_172 (dk_at dksX5_dearest_2 23 rfl rfl)
abbrev cX5_ring : ByteArray := prog_16_method_4_code
def yX5_ring : MethodName := ⟨RX5, "ring", "()I"⟩
def dkwX5_ring_2 : List UInt8 := [180, 0, 19, 27, 46, 60, 167, 255, 235, 28, 172]
abbrev dktX5_ring_2 : List UInt8 := dkwX5_ring_2 ++ []
def dkwX5_ring_1 : List UInt8 := [132, 2, 1, 167, 255, 240, 3, 61, 28, 27, 184, 0, 44, 154, 0, 19, 28, 4, 27, 120, 128, 61, 42]
abbrev dktX5_ring_1 : List UInt8 := dkwX5_ring_1 ++ dktX5_ring_2
def dkwX5_ring_0 : List UInt8 := [42, 180, 0, 28, 184, 0, 62, 60, 3, 61, 28, 16, 10, 162, 0, 16, 42, 180, 0, 19, 27, 46, 60]
abbrev dktX5_ring_0 : List UInt8 := dkwX5_ring_0 ++ dktX5_ring_1
theorem dksX5_ring_0 : cX5_ring.data.toList.drop 0 = dktX5_ring_0 := by decide +kernel
theorem dksX5_ring_1 : cX5_ring.data.toList.drop 23 = dktX5_ring_1 := dk_seg dksX5_ring_0 23 rfl rfl
theorem dksX5_ring_2 : cX5_ring.data.toList.drop 46 = dktX5_ring_2 := dk_seg dksX5_ring_1 23 rfl rfl
theorem dX5_ring_0 : decode cX5_ring 0 = .ok (.aload_n 0, 1) := dk_42 (dk_at dksX5_ring_0 0 rfl rfl)
theorem dX5_ring_1 : decode cX5_ring 1 = .ok (.getfield 28, 3) := dk_180 0 28 (dk_at dksX5_ring_0 1 rfl rfl)
theorem dX5_ring_4 : decode cX5_ring 4 = .ok (.invokestatic 62, 3) := dk_184 0 62 (dk_at dksX5_ring_0 4 rfl rfl)
theorem dX5_ring_7 : decode cX5_ring 7 = .ok (.istore_n 1, 1) := dk_60 (dk_at dksX5_ring_0 7 rfl rfl)
theorem dX5_ring_8 : decode cX5_ring 8 = .ok (.iconst 0, 1) := dk_3 (dk_at dksX5_ring_0 8 rfl rfl)
theorem dX5_ring_9 : decode cX5_ring 9 = .ok (.istore_n 2, 1) := dk_61 (dk_at dksX5_ring_0 9 rfl rfl)
theorem dX5_ring_10 : decode cX5_ring 10 = .ok (.iload_n 2, 1) := dk_28 (dk_at dksX5_ring_0 10 rfl rfl)
theorem dX5_ring_11 : decode cX5_ring 11 = .ok (.bipush 10, 2) := dk_16 10 (dk_at dksX5_ring_0 11 rfl rfl)
theorem dX5_ring_13 : decode cX5_ring 13 = .ok (.if_icmp .ge 16, 3) := dk_162 0 16 (dk_at dksX5_ring_0 13 rfl rfl)
theorem dX5_ring_16 : decode cX5_ring 16 = .ok (.aload_n 0, 1) := dk_42 (dk_at dksX5_ring_0 16 rfl rfl)
theorem dX5_ring_17 : decode cX5_ring 17 = .ok (.getfield 19, 3) := dk_180 0 19 (dk_at dksX5_ring_0 17 rfl rfl)
theorem dX5_ring_20 : decode cX5_ring 20 = .ok (.iload_n 1, 1) := dk_27 (dk_at dksX5_ring_0 20 rfl rfl)
theorem dX5_ring_21 : decode cX5_ring 21 = .ok (.iaload, 1) := dk_46 (dk_at dksX5_ring_0 21 rfl rfl)
theorem dX5_ring_22 : decode cX5_ring 22 = .ok (.istore_n 1, 1) := dk_60 (dk_at dksX5_ring_0 22 rfl rfl)
theorem dX5_ring_23 : decode cX5_ring 23 = .ok (.iinc 2 1, 3) := dk_132 2 1 (dk_at dksX5_ring_1 0 rfl rfl)
theorem dX5_ring_26 : decode cX5_ring 26 = .ok (.goto (-16), 3) := dk_167 255 240 (dk_at dksX5_ring_1 3 rfl rfl)
theorem dX5_ring_29 : decode cX5_ring 29 = .ok (.iconst 0, 1) := dk_3 (dk_at dksX5_ring_1 6 rfl rfl)
theorem dX5_ring_30 : decode cX5_ring 30 = .ok (.istore_n 2, 1) := dk_61 (dk_at dksX5_ring_1 7 rfl rfl)
theorem dX5_ring_31 : decode cX5_ring 31 = .ok (.iload_n 2, 1) := dk_28 (dk_at dksX5_ring_1 8 rfl rfl)
theorem dX5_ring_32 : decode cX5_ring 32 = .ok (.iload_n 1, 1) := dk_27 (dk_at dksX5_ring_1 9 rfl rfl)
theorem dX5_ring_33 : decode cX5_ring 33 = .ok (.invokestatic 44, 3) := dk_184 0 44 (dk_at dksX5_ring_1 10 rfl rfl)
theorem dX5_ring_36 : decode cX5_ring 36 = .ok (.ifCond .ne 19, 3) := dk_154 0 19 (dk_at dksX5_ring_1 13 rfl rfl)
theorem dX5_ring_39 : decode cX5_ring 39 = .ok (.iload_n 2, 1) := dk_28 (dk_at dksX5_ring_1 16 rfl rfl)
theorem dX5_ring_40 : decode cX5_ring 40 = .ok (.iconst 1, 1) := dk_4 (dk_at dksX5_ring_1 17 rfl rfl)
theorem dX5_ring_41 : decode cX5_ring 41 = .ok (.iload_n 1, 1) := dk_27 (dk_at dksX5_ring_1 18 rfl rfl)
theorem dX5_ring_42 : decode cX5_ring 42 = .ok (.ishl, 1) := dk_120 (dk_at dksX5_ring_1 19 rfl rfl)
theorem dX5_ring_43 : decode cX5_ring 43 = .ok (.ior, 1) := dk_128 (dk_at dksX5_ring_1 20 rfl rfl)
theorem dX5_ring_44 : decode cX5_ring 44 = .ok (.istore_n 2, 1) := dk_61 (dk_at dksX5_ring_1 21 rfl rfl)
theorem dX5_ring_45 : decode cX5_ring 45 = .ok (.aload_n 0, 1) := dk_42 (dk_at dksX5_ring_1 22 rfl rfl)
theorem dX5_ring_46 : decode cX5_ring 46 = .ok (.getfield 19, 3) := dk_180 0 19 (dk_at dksX5_ring_2 0 rfl rfl)
theorem dX5_ring_49 : decode cX5_ring 49 = .ok (.iload_n 1, 1) := dk_27 (dk_at dksX5_ring_2 3 rfl rfl)
theorem dX5_ring_50 : decode cX5_ring 50 = .ok (.iaload, 1) := dk_46 (dk_at dksX5_ring_2 4 rfl rfl)
theorem dX5_ring_51 : decode cX5_ring 51 = .ok (.istore_n 1, 1) := dk_60 (dk_at dksX5_ring_2 5 rfl rfl)
theorem dX5_ring_52 : decode cX5_ring 52 = .ok (.goto (-21), 3) := dk_167 255 235 (dk_at dksX5_ring_2 6 rfl rfl)
theorem dX5_ring_55 : decode cX5_ring 55 = .ok (.iload_n 2, 1) := dk_28 (dk_at dksX5_ring_2 9 rfl rfl)
theorem dX5_ring_56 : decode cX5_ring 56 = .ok (.ireturn, 1) := dk_172 (dk_at dksX5_ring_2 10 rfl rfl)
