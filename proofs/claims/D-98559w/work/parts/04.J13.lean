/-! decode rows of J13 -/
set_option maxRecDepth 100000
abbrev cJ13_init : ByteArray := prog_30_method_2_code
def yJ13_init : MethodName := ⟨RJ13, "<init>", "(Ljava/lang/String;)V"⟩
def dkwJ13_init_0 : List UInt8 := [42, 43, 183, 0, 7, 177]
abbrev dktJ13_init_0 : List UInt8 := dkwJ13_init_0 ++ []
theorem dksJ13_init_0 : cJ13_init.data.toList.drop 0 = dktJ13_init_0 := by decide +kernel
theorem dJ13_init_0 : decode cJ13_init 0 = .ok (.aload_n 0, 1) := dk_42 (dk_at dksJ13_init_0 0 rfl rfl)
theorem dJ13_init_1 : decode cJ13_init 1 = .ok (.aload_n 1, 1) := dk_43 (dk_at dksJ13_init_0 1 rfl rfl)
theorem dJ13_init_2 : decode cJ13_init 2 = .ok (.invokespecial 7, 3) := dk_183 0 7 (dk_at dksJ13_init_0 2 rfl rfl)
theorem dJ13_init_5 : decode cJ13_init 5 = .ok (.return_, 1) := dk_177 (dk_at dksJ13_init_0 5 rfl rfl)
abbrev cJ13_init_2 : ByteArray := prog_30_method_5_code
def yJ13_init_2 : MethodName := ⟨RJ13, "<init>", "(Ljava/lang/String;Ljava/lang/Throwable;ZZ)V"⟩
def dkwJ13_init_2_0 : List UInt8 := [42, 43, 44, 29, 21, 4, 183, 0, 16, 177]
abbrev dktJ13_init_2_0 : List UInt8 := dkwJ13_init_2_0 ++ []
theorem dksJ13_init_2_0 : cJ13_init_2.data.toList.drop 0 = dktJ13_init_2_0 := by decide +kernel
theorem dJ13_init_2_0 : decode cJ13_init_2 0 = .ok (.aload_n 0, 1) := dk_42 (dk_at dksJ13_init_2_0 0 rfl rfl)
theorem dJ13_init_2_1 : decode cJ13_init_2 1 = .ok (.aload_n 1, 1) := dk_43 (dk_at dksJ13_init_2_0 1 rfl rfl)
theorem dJ13_init_2_2 : decode cJ13_init_2 2 = .ok (.aload_n 2, 1) := dk_44 (dk_at dksJ13_init_2_0 2 rfl rfl)
theorem dJ13_init_2_3 : decode cJ13_init_2 3 = .ok (.iload_n 3, 1) := dk_29 (dk_at dksJ13_init_2_0 3 rfl rfl)
theorem dJ13_init_2_4 : decode cJ13_init_2 4 = .ok (.iload 4, 2) := dk_21 4 (dk_at dksJ13_init_2_0 4 rfl rfl)
theorem dJ13_init_2_6 : decode cJ13_init_2 6 = .ok (.invokespecial 16, 3) := dk_183 0 16 (dk_at dksJ13_init_2_0 6 rfl rfl)
theorem dJ13_init_2_9 : decode cJ13_init_2 9 = .ok (.return_, 1) := dk_177 (dk_at dksJ13_init_2_0 9 rfl rfl)
abbrev cJ13_init_3 : ByteArray := prog_30_method_1_code
def yJ13_init_3 : MethodName := ⟨RJ13, "<init>", "()V"⟩
theorem dJ13_init_3_0 : decode cJ13_init_3 0 = .ok (.aload_n 0, 1) := by decide +kernel
theorem dJ13_init_3_1 : decode cJ13_init_3 1 = .ok (.invokespecial 1, 3) := by decide +kernel
theorem dJ13_init_3_4 : decode cJ13_init_3 4 = .ok (.return_, 1) := by decide +kernel
