/-! decode rows of X15 -/
set_option maxRecDepth 100000
abbrev cX15_init : ByteArray := prog_14_method_1_code
def yX15_init : MethodName := ⟨RX15, "<init>", "()V"⟩
def dkwX15_init_0 : List UInt8 := [42, 183, 0, 1, 42, 187, 0, 7, 89, 183, 0, 9, 181, 0, 10, 177]
abbrev dktX15_init_0 : List UInt8 := dkwX15_init_0 ++ []
theorem dksX15_init_0 : cX15_init.data.toList.drop 0 = dktX15_init_0 := by decide +kernel
theorem dX15_init_0 : decode cX15_init 0 = .ok (.aload_n 0, 1) := dk_42 (dk_at dksX15_init_0 0 rfl rfl)
theorem dX15_init_1 : decode cX15_init 1 = .ok (.invokespecial 1, 3) := dk_183 0 1 (dk_at dksX15_init_0 1 rfl rfl)
theorem dX15_init_4 : decode cX15_init 4 = .ok (.aload_n 0, 1) := dk_42 (dk_at dksX15_init_0 4 rfl rfl)
theorem dX15_init_5 : decode cX15_init 5 = .ok (.new 7, 3) := dk_187 0 7 (dk_at dksX15_init_0 5 rfl rfl)
theorem dX15_init_8 : decode cX15_init 8 = .ok (.dup, 1) := dk_89 (dk_at dksX15_init_0 8 rfl rfl)
theorem dX15_init_9 : decode cX15_init 9 = .ok (.invokespecial 9, 3) := dk_183 0 9 (dk_at dksX15_init_0 9 rfl rfl)
theorem dX15_init_12 : decode cX15_init 12 = .ok (.putfield 10, 3) := dk_181 0 10 (dk_at dksX15_init_0 12 rfl rfl)
theorem dX15_init_15 : decode cX15_init 15 = .ok (.return_, 1) := dk_177 (dk_at dksX15_init_0 15 rfl rfl)
abbrev cX15_in : ByteArray := prog_14_method_2_code
def yX15_in : MethodName := ⟨RX15, "in", "(LHungFaces$Scene;)I"⟩
def dkwX15_in_1 : List UInt8 := [192, 0, 24, 43, 182, 0, 26, 96, 61, 132, 3, 1, 167, 255, 224, 28, 172]
abbrev dktX15_in_1 : List UInt8 := dkwX15_in_1 ++ []
def dkwX15_in_0 : List UInt8 := [3, 61, 3, 62, 29, 42, 180, 0, 10, 182, 0, 16, 162, 0, 27, 28, 42, 180, 0, 10, 29, 182, 0, 20]
abbrev dktX15_in_0 : List UInt8 := dkwX15_in_0 ++ dktX15_in_1
theorem dksX15_in_0 : cX15_in.data.toList.drop 0 = dktX15_in_0 := by decide +kernel
theorem dksX15_in_1 : cX15_in.data.toList.drop 24 = dktX15_in_1 := dk_seg dksX15_in_0 24 rfl rfl
theorem dX15_in_0 : decode cX15_in 0 = .ok (.iconst 0, 1) := dk_3 (dk_at dksX15_in_0 0 rfl rfl)
theorem dX15_in_1 : decode cX15_in 1 = .ok (.istore_n 2, 1) := dk_61 (dk_at dksX15_in_0 1 rfl rfl)
theorem dX15_in_2 : decode cX15_in 2 = .ok (.iconst 0, 1) := dk_3 (dk_at dksX15_in_0 2 rfl rfl)
theorem dX15_in_3 : decode cX15_in 3 = .ok (.istore_n 3, 1) := dk_62 (dk_at dksX15_in_0 3 rfl rfl)
theorem dX15_in_4 : decode cX15_in 4 = .ok (.iload_n 3, 1) := dk_29 (dk_at dksX15_in_0 4 rfl rfl)
theorem dX15_in_5 : decode cX15_in 5 = .ok (.aload_n 0, 1) := dk_42 (dk_at dksX15_in_0 5 rfl rfl)
theorem dX15_in_6 : decode cX15_in 6 = .ok (.getfield 10, 3) := dk_180 0 10 (dk_at dksX15_in_0 6 rfl rfl)
theorem dX15_in_9 : decode cX15_in 9 = .ok (.invokevirtual 16, 3) := dk_182 0 16 (dk_at dksX15_in_0 9 rfl rfl)
theorem dX15_in_12 : decode cX15_in 12 = .ok (.if_icmp .ge 27, 3) := dk_162 0 27 (dk_at dksX15_in_0 12 rfl rfl)
theorem dX15_in_15 : decode cX15_in 15 = .ok (.iload_n 2, 1) := dk_28 (dk_at dksX15_in_0 15 rfl rfl)
theorem dX15_in_16 : decode cX15_in 16 = .ok (.aload_n 0, 1) := dk_42 (dk_at dksX15_in_0 16 rfl rfl)
theorem dX15_in_17 : decode cX15_in 17 = .ok (.getfield 10, 3) := dk_180 0 10 (dk_at dksX15_in_0 17 rfl rfl)
theorem dX15_in_20 : decode cX15_in 20 = .ok (.iload_n 3, 1) := dk_29 (dk_at dksX15_in_0 20 rfl rfl)
theorem dX15_in_21 : decode cX15_in 21 = .ok (.invokevirtual 20, 3) := dk_182 0 20 (dk_at dksX15_in_0 21 rfl rfl)
theorem dX15_in_24 : decode cX15_in 24 = .ok (.checkcast 24, 3) := dk_192 0 24 (dk_at dksX15_in_1 0 rfl rfl)
theorem dX15_in_27 : decode cX15_in 27 = .ok (.aload_n 1, 1) := dk_43 (dk_at dksX15_in_1 3 rfl rfl)
theorem dX15_in_28 : decode cX15_in 28 = .ok (.invokevirtual 26, 3) := dk_182 0 26 (dk_at dksX15_in_1 4 rfl rfl)
theorem dX15_in_31 : decode cX15_in 31 = .ok (.iadd, 1) := dk_96 (dk_at dksX15_in_1 7 rfl rfl)
theorem dX15_in_32 : decode cX15_in 32 = .ok (.istore_n 2, 1) := dk_61 (dk_at dksX15_in_1 8 rfl rfl)
theorem dX15_in_33 : decode cX15_in 33 = .ok (.iinc 3 1, 3) := dk_132 3 1 (dk_at dksX15_in_1 9 rfl rfl)
theorem dX15_in_36 : decode cX15_in 36 = .ok (.goto (-32), 3) := dk_167 255 224 (dk_at dksX15_in_1 12 rfl rfl)
theorem dX15_in_39 : decode cX15_in 39 = .ok (.iload_n 2, 1) := dk_28 (dk_at dksX15_in_1 15 rfl rfl)
theorem dX15_in_40 : decode cX15_in 40 = .ok (.ireturn, 1) := dk_172 (dk_at dksX15_in_1 16 rfl rfl)
