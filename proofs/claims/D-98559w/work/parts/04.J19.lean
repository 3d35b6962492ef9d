/-! decode rows of J19 -/
set_option maxRecDepth 100000
abbrev cJ19_init : ByteArray := prog_33_method_2_code
def yJ19_init : MethodName := ⟨RJ19, "<init>", "(Ljava/lang/String;)V"⟩
def dkwJ19_init_0 : List UInt8 := [42, 43, 183, 0, 7, 177]
abbrev dktJ19_init_0 : List UInt8 := dkwJ19_init_0 ++ []
theorem dksJ19_init_0 : cJ19_init.data.toList.drop 0 = dktJ19_init_0 := by decide +kernel
theorem dJ19_init_0 : decode cJ19_init 0 = .ok (.aload_n 0, 1) := dk_42 (dk_at dksJ19_init_0 0 rfl rfl)
theorem dJ19_init_1 : decode cJ19_init 1 = .ok (.aload_n 1, 1) := dk_43 (dk_at dksJ19_init_0 1 rfl rfl)
theorem dJ19_init_2 : decode cJ19_init 2 = .ok (.invokespecial 7, 3) := dk_183 0 7 (dk_at dksJ19_init_0 2 rfl rfl)
theorem dJ19_init_5 : decode cJ19_init 5 = .ok (.return_, 1) := dk_177 (dk_at dksJ19_init_0 5 rfl rfl)
abbrev cJ19_init_2 : ByteArray := prog_33_method_1_code
def yJ19_init_2 : MethodName := ⟨RJ19, "<init>", "()V"⟩
theorem dJ19_init_2_0 : decode cJ19_init_2 0 = .ok (.aload_n 0, 1) := by decide +kernel
theorem dJ19_init_2_1 : decode cJ19_init_2 1 = .ok (.invokespecial 1, 3) := by decide +kernel
theorem dJ19_init_2_4 : decode cJ19_init_2 4 = .ok (.return_, 1) := by decide +kernel
