/-! decode rows of X16 -/
set_option maxRecDepth 100000
abbrev cX16_init : ByteArray := prog_9_method_1_code
def yX16_init : MethodName := ⟨RX16, "<init>", "(ILHungFaces$Fact;)V"⟩
def dkwX16_init_0 : List UInt8 := [42, 183, 0, 1, 42, 27, 181, 0, 7, 42, 44, 181, 0, 13, 177]
abbrev dktX16_init_0 : List UInt8 := dkwX16_init_0 ++ []
theorem dksX16_init_0 : cX16_init.data.toList.drop 0 = dktX16_init_0 := by decide +kernel
theorem dX16_init_0 : decode cX16_init 0 = .ok (.aload_n 0, 1) := dk_42 (dk_at dksX16_init_0 0 rfl rfl)
theorem dX16_init_1 : decode cX16_init 1 = .ok (.invokespecial 1, 3) := dk_183 0 1 (dk_at dksX16_init_0 1 rfl rfl)
theorem dX16_init_4 : decode cX16_init 4 = .ok (.aload_n 0, 1) := dk_42 (dk_at dksX16_init_0 4 rfl rfl)
theorem dX16_init_5 : decode cX16_init 5 = .ok (.iload_n 1, 1) := dk_27 (dk_at dksX16_init_0 5 rfl rfl)
theorem dX16_init_6 : decode cX16_init 6 = .ok (.putfield 7, 3) := dk_181 0 7 (dk_at dksX16_init_0 6 rfl rfl)
theorem dX16_init_9 : decode cX16_init 9 = .ok (.aload_n 0, 1) := dk_42 (dk_at dksX16_init_0 9 rfl rfl)
theorem dX16_init_10 : decode cX16_init 10 = .ok (.aload_n 2, 1) := dk_44 (dk_at dksX16_init_0 10 rfl rfl)
theorem dX16_init_11 : decode cX16_init 11 = .ok (.putfield 13, 3) := dk_181 0 13 (dk_at dksX16_init_0 11 rfl rfl)
theorem dX16_init_14 : decode cX16_init 14 = .ok (.return_, 1) := dk_177 (dk_at dksX16_init_0 14 rfl rfl)
abbrev cX16_in : ByteArray := prog_9_method_2_code
def yX16_in : MethodName := ⟨RX16, "in", "(LHungFaces$Scene;)I"⟩
def dkwX16_in_0 : List UInt8 := [42, 180, 0, 13, 199, 0, 10, 42, 180, 0, 7, 167, 0, 11, 43, 42, 180, 0, 13, 182, 0, 17, 172]
abbrev dktX16_in_0 : List UInt8 := dkwX16_in_0 ++ []
theorem dksX16_in_0 : cX16_in.data.toList.drop 0 = dktX16_in_0 := by decide +kernel
theorem dX16_in_0 : decode cX16_in 0 = .ok (.aload_n 0, 1) := dk_42 (dk_at dksX16_in_0 0 rfl rfl)
theorem dX16_in_1 : decode cX16_in 1 = .ok (.getfield 13, 3) := dk_180 0 13 (dk_at dksX16_in_0 1 rfl rfl)
theorem dX16_in_4 : decode cX16_in 4 = .ok (.ifnonnull 10, 3) := dk_199 0 10 (dk_at dksX16_in_0 4 rfl rfl)
theorem dX16_in_7 : decode cX16_in 7 = .ok (.aload_n 0, 1) := dk_42 (dk_at dksX16_in_0 7 rfl rfl)
theorem dX16_in_8 : decode cX16_in 8 = .ok (.getfield 7, 3) := dk_180 0 7 (dk_at dksX16_in_0 8 rfl rfl)
theorem dX16_in_11 : decode cX16_in 11 = .ok (.goto 11, 3) := dk_167 0 11 (dk_at dksX16_in_0 11 rfl rfl)
theorem dX16_in_14 : decode cX16_in 14 = .ok (.aload_n 1, 1) := dk_43 (dk_at dksX16_in_0 14 rfl rfl)
theorem dX16_in_15 : decode cX16_in 15 = .ok (.aload_n 0, 1) := dk_42 (dk_at dksX16_in_0 15 rfl rfl)
theorem dX16_in_16 : decode cX16_in 16 = .ok (.getfield 13, 3) := dk_180 0 13 (dk_at dksX16_in_0 16 rfl rfl)
theorem dX16_in_19 : decode cX16_in 19 = .ok (.invokevirtual 17, 3) := dk_182 0 17 (dk_at dksX16_in_0 19 rfl rfl)
theorem dX16_in_22 : decode cX16_in 22 = .ok (.ireturn, 1) := dk_172 (dk_at dksX16_in_0 22 rfl rfl)
