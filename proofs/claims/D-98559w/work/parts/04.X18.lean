/-! decode rows of X18 -/
set_option maxRecDepth 100000
abbrev cX18_init : ByteArray := prog_5_method_1_code
def yX18_init : MethodName := ⟨RX18, "<init>", "(LHungFaces$Sum;LHungFaces$Sum;)V"⟩
def dkwX18_init_0 : List UInt8 := [42, 183, 0, 1, 42, 43, 181, 0, 7, 42, 44, 181, 0, 13, 177]
abbrev dktX18_init_0 : List UInt8 := dkwX18_init_0 ++ []
theorem dksX18_init_0 : cX18_init.data.toList.drop 0 = dktX18_init_0 := by decide +kernel
theorem dX18_init_0 : decode cX18_init 0 = .ok (.aload_n 0, 1) := dk_42 (dk_at dksX18_init_0 0 rfl rfl)
theorem dX18_init_1 : decode cX18_init 1 = .ok (.invokespecial 1, 3) := dk_183 0 1 (dk_at dksX18_init_0 1 rfl rfl)
theorem dX18_init_4 : decode cX18_init 4 = .ok (.aload_n 0, 1) := dk_42 (dk_at dksX18_init_0 4 rfl rfl)
theorem dX18_init_5 : decode cX18_init 5 = .ok (.aload_n 1, 1) := dk_43 (dk_at dksX18_init_0 5 rfl rfl)
theorem dX18_init_6 : decode cX18_init 6 = .ok (.putfield 7, 3) := dk_181 0 7 (dk_at dksX18_init_0 6 rfl rfl)
theorem dX18_init_9 : decode cX18_init 9 = .ok (.aload_n 0, 1) := dk_42 (dk_at dksX18_init_0 9 rfl rfl)
theorem dX18_init_10 : decode cX18_init 10 = .ok (.aload_n 2, 1) := dk_44 (dk_at dksX18_init_0 10 rfl rfl)
theorem dX18_init_11 : decode cX18_init 11 = .ok (.putfield 13, 3) := dk_181 0 13 (dk_at dksX18_init_0 11 rfl rfl)
theorem dX18_init_14 : decode cX18_init 14 = .ok (.return_, 1) := dk_177 (dk_at dksX18_init_0 14 rfl rfl)
abbrev cX18_holds : ByteArray := prog_5_method_2_code
def yX18_holds : MethodName := ⟨RX18, "holds", "(LHungFaces$Scene;)Z"⟩
def dkwX18_holds_1 : List UInt8 := [172]
abbrev dktX18_holds_1 : List UInt8 := dkwX18_holds_1 ++ []
def dkwX18_holds_0 : List UInt8 := [42, 180, 0, 7, 43, 182, 0, 16, 42, 180, 0, 13, 43, 182, 0, 16, 162, 0, 7, 4, 167, 0, 4, 3]
abbrev dktX18_holds_0 : List UInt8 := dkwX18_holds_0 ++ dktX18_holds_1
theorem dksX18_holds_0 : cX18_holds.data.toList.drop 0 = dktX18_holds_0 := by decide +kernel
theorem dksX18_holds_1 : cX18_holds.data.toList.drop 24 = dktX18_holds_1 := dk_seg dksX18_holds_0 24 rfl rfl
theorem dX18_holds_0 : decode cX18_holds 0 = .ok (.aload_n 0, 1) := dk_42 (dk_at dksX18_holds_0 0 rfl rfl)
theorem dX18_holds_1 : decode cX18_holds 1 = .ok (.getfield 7, 3) := dk_180 0 7 (dk_at dksX18_holds_0 1 rfl rfl)
theorem dX18_holds_4 : decode cX18_holds 4 = .ok (.aload_n 1, 1) := dk_43 (dk_at dksX18_holds_0 4 rfl rfl)
theorem dX18_holds_5 : decode cX18_holds 5 = .ok (.invokevirtual 16, 3) := dk_182 0 16 (dk_at dksX18_holds_0 5 rfl rfl)
theorem dX18_holds_8 : decode cX18_holds 8 = .ok (.aload_n 0, 1) := dk_42 (dk_at dksX18_holds_0 8 rfl rfl)
theorem dX18_holds_9 : decode cX18_holds 9 = .ok (.getfield 13, 3) := dk_180 0 13 (dk_at dksX18_holds_0 9 rfl rfl)
theorem dX18_holds_12 : decode cX18_holds 12 = .ok (.aload_n 1, 1) := dk_43 (dk_at dksX18_holds_0 12 rfl rfl)
theorem dX18_holds_13 : decode cX18_holds 13 = .ok (.invokevirtual 16, 3) := dk_182 0 16 (dk_at dksX18_holds_0 13 rfl rfl)
theorem dX18_holds_16 : decode cX18_holds 16 = .ok (.if_icmp .ge 7, 3) := dk_162 0 7 (dk_at dksX18_holds_0 16 rfl rfl)
theorem dX18_holds_19 : decode cX18_holds 19 = .ok (.iconst 1, 1) := dk_4 (dk_at dksX18_holds_0 19 rfl rfl)
theorem dX18_holds_20 : decode cX18_holds 20 = .ok (.goto 4, 3) := dk_167 0 4 (dk_at dksX18_holds_0 20 rfl rfl)
theorem dX18_holds_23 : decode cX18_holds 23 = .ok (.iconst 0, 1) := dk_3 (dk_at dksX18_holds_0 23 rfl rfl)
theorem dX18_holds_24 : decode cX18_holds 24 = .ok (.ireturn, 1) := dk_172 (dk_at dksX18_holds_1 0 rfl rfl)
