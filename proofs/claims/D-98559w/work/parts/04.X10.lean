/-! decode rows of X10 -/
set_option maxRecDepth 100000
abbrev cX10_init : ByteArray := prog_4_method_1_code
def yX10_init : MethodName := ⟨RX10, "<init>", "()V"⟩
def dkwX10_init_0 : List UInt8 := [42, 183, 0, 1, 42, 187, 0, 7, 89, 183, 0, 9, 181, 0, 10, 177]
abbrev dktX10_init_0 : List UInt8 := dkwX10_init_0 ++ []
theorem dksX10_init_0 : cX10_init.data.toList.drop 0 = dktX10_init_0 := by decide +kernel
theorem dX10_init_0 : decode cX10_init 0 = .ok (.aload_n 0, 1) := dk_42 (dk_at dksX10_init_0 0 rfl rfl)
theorem dX10_init_1 : decode cX10_init 1 = .ok (.invokespecial 1, 3) := dk_183 0 1 (dk_at dksX10_init_0 1 rfl rfl)
theorem dX10_init_4 : decode cX10_init 4 = .ok (.aload_n 0, 1) := dk_42 (dk_at dksX10_init_0 4 rfl rfl)
theorem dX10_init_5 : decode cX10_init 5 = .ok (.new 7, 3) := dk_187 0 7 (dk_at dksX10_init_0 5 rfl rfl)
theorem dX10_init_8 : decode cX10_init 8 = .ok (.dup, 1) := dk_89 (dk_at dksX10_init_0 8 rfl rfl)
theorem dX10_init_9 : decode cX10_init 9 = .ok (.invokespecial 9, 3) := dk_183 0 9 (dk_at dksX10_init_0 9 rfl rfl)
theorem dX10_init_12 : decode cX10_init 12 = .ok (.putfield 10, 3) := dk_181 0 10 (dk_at dksX10_init_0 12 rfl rfl)
theorem dX10_init_15 : decode cX10_init 15 = .ok (.return_, 1) := dk_177 (dk_at dksX10_init_0 15 rfl rfl)
abbrev cX10_tells : ByteArray := prog_4_method_2_code
def yX10_tells : MethodName := ⟨RX10, "tells", "(ZLHungFaces$Scene;)Z"⟩
def dkwX10_tells_2 : List UInt8 := [44, 185, 0, 34, 2, 0, 153, 0, 5, 4, 172, 132, 3, 1, 167, 255, 196, 3, 172]
abbrev dktX10_tells_2 : List UInt8 := dkwX10_tells_2 ++ []
def dkwX10_tells_1 : List UInt8 := [58, 4, 25, 4, 180, 0, 26, 27, 160, 0, 27, 25, 4, 180, 0, 30, 198, 0, 17, 25, 4, 180, 0, 30]
abbrev dktX10_tells_1 : List UInt8 := dkwX10_tells_1 ++ dktX10_tells_2
def dkwX10_tells_0 : List UInt8 := [3, 62, 29, 42, 180, 0, 10, 182, 0, 16, 162, 0, 55, 42, 180, 0, 10, 29, 182, 0, 20, 192, 0, 24]
abbrev dktX10_tells_0 : List UInt8 := dkwX10_tells_0 ++ dktX10_tells_1
theorem dksX10_tells_0 : cX10_tells.data.toList.drop 0 = dktX10_tells_0 := by decide +kernel
theorem dksX10_tells_1 : cX10_tells.data.toList.drop 24 = dktX10_tells_1 := dk_seg dksX10_tells_0 24 rfl rfl
theorem dksX10_tells_2 : cX10_tells.data.toList.drop 48 = dktX10_tells_2 := dk_seg dksX10_tells_1 24 rfl rfl
theorem dX10_tells_0 : decode cX10_tells 0 = .ok (.iconst 0, 1) := dk_3 (dk_at dksX10_tells_0 0 rfl rfl)
theorem dX10_tells_1 : decode cX10_tells 1 = .ok (.istore_n 3, 1) := dk_62 (dk_at dksX10_tells_0 1 rfl rfl)
theorem dX10_tells_2 : decode cX10_tells 2 = .ok (.iload_n 3, 1) := dk_29 (dk_at dksX10_tells_0 2 rfl rfl)
theorem dX10_tells_3 : decode cX10_tells 3 = .ok (.aload_n 0, 1) := dk_42 (dk_at dksX10_tells_0 3 rfl rfl)
theorem dX10_tells_4 : decode cX10_tells 4 = .ok (.getfield 10, 3) := dk_180 0 10 (dk_at dksX10_tells_0 4 rfl rfl)
theorem dX10_tells_7 : decode cX10_tells 7 = .ok (.invokevirtual 16, 3) := dk_182 0 16 (dk_at dksX10_tells_0 7 rfl rfl)
theorem dX10_tells_10 : decode cX10_tells 10 = .ok (.if_icmp .ge 55, 3) := dk_162 0 55 (dk_at dksX10_tells_0 10 rfl rfl)
theorem dX10_tells_13 : decode cX10_tells 13 = .ok (.aload_n 0, 1) := dk_42 (dk_at dksX10_tells_0 13 rfl rfl)
theorem dX10_tells_14 : decode cX10_tells 14 = .ok (.getfield 10, 3) := dk_180 0 10 (dk_at dksX10_tells_0 14 rfl rfl)
theorem dX10_tells_17 : decode cX10_tells 17 = .ok (.iload_n 3, 1) := dk_29 (dk_at dksX10_tells_0 17 rfl rfl)
theorem dX10_tells_18 : decode cX10_tells 18 = .ok (.invokevirtual 20, 3) := dk_182 0 20 (dk_at dksX10_tells_0 18 rfl rfl)
theorem dX10_tells_21 : decode cX10_tells 21 = .ok (.checkcast 24, 3) := dk_192 0 24 (dk_at dksX10_tells_0 21 rfl rfl)
theorem dX10_tells_24 : decode cX10_tells 24 = .ok (.astore 4, 2) := dk_58 4 (dk_at dksX10_tells_1 0 rfl rfl)
theorem dX10_tells_26 : decode cX10_tells 26 = .ok (.aload 4, 2) := dk_25 4 (dk_at dksX10_tells_1 2 rfl rfl)
theorem dX10_tells_28 : decode cX10_tells 28 = .ok (.getfield 26, 3) := dk_180 0 26 (dk_at dksX10_tells_1 4 rfl rfl)
theorem dX10_tells_31 : decode cX10_tells 31 = .ok (.iload_n 1, 1) := dk_27 (dk_at dksX10_tells_1 7 rfl rfl)
theorem dX10_tells_32 : decode cX10_tells 32 = .ok (.if_icmp .ne 27, 3) := dk_160 0 27 (dk_at dksX10_tells_1 8 rfl rfl)
theorem dX10_tells_35 : decode cX10_tells 35 = .ok (.aload 4, 2) := dk_25 4 (dk_at dksX10_tells_1 11 rfl rfl)
theorem dX10_tells_37 : decode cX10_tells 37 = .ok (.getfield 30, 3) := dk_180 0 30 (dk_at dksX10_tells_1 13 rfl rfl)
theorem dX10_tells_40 : decode cX10_tells 40 = .ok (.ifnull 17, 3) := dk_198 0 17 (dk_at dksX10_tells_1 16 rfl rfl)
theorem dX10_tells_43 : decode cX10_tells 43 = .ok (.aload 4, 2) := dk_25 4 (dk_at dksX10_tells_1 19 rfl rfl)
theorem dX10_tells_45 : decode cX10_tells 45 = .ok (.getfield 30, 3) := dk_180 0 30 (dk_at dksX10_tells_1 21 rfl rfl)
theorem dX10_tells_48 : decode cX10_tells 48 = .ok (.aload_n 2, 1) := dk_44 (dk_at dksX10_tells_2 0 rfl rfl)
theorem dX10_tells_49 : decode cX10_tells 49 = .ok (.invokeinterface 34 2, 5) := by decide +kernel
theorem dX10_tells_54 : decode cX10_tells 54 = .ok (.ifCond .eq 5, 3) := dk_153 0 5 (dk_at dksX10_tells_2 6 rfl rfl)
theorem dX10_tells_57 : decode cX10_tells 57 = .ok (.iconst 1, 1) := dk_4 (dk_at dksX10_tells_2 9 rfl rfl)
theorem dX10_tells_58 : decode cX10_tells 58 = .ok (.ireturn, 1) := dk_172 (dk_at dksX10_tells_2 10 rfl rfl)
theorem dX10_tells_59 : decode cX10_tells 59 = .ok (.iinc 3 1, 3) := dk_132 3 1 (dk_at dksX10_tells_2 11 rfl rfl)
theorem dX10_tells_62 : decode cX10_tells 62 = .ok (.goto (-60), 3) := dk_167 255 196 (dk_at dksX10_tells_2 14 rfl rfl)
theorem dX10_tells_65 : decode cX10_tells 65 = .ok (.iconst 0, 1) := dk_3 (dk_at dksX10_tells_2 17 rfl rfl)
theorem dX10_tells_66 : decode cX10_tells 66 = .ok (.ireturn, 1) := dk_172 (dk_at dksX10_tells_2 18 rfl rfl)
