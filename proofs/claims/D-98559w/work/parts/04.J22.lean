/-! decode rows of J22 -/
set_option maxRecDepth 100000
abbrev cJ22_init : ByteArray := prog_32_method_1_code
def yJ22_init : MethodName := ⟨RJ22, "<init>", "()V"⟩
theorem dJ22_init_0 : decode cJ22_init 0 = .ok (.aload_n 0, 1) := by decide +kernel
theorem dJ22_init_1 : decode cJ22_init 1 = .ok (.invokespecial 1, 3) := by decide +kernel
theorem dJ22_init_4 : decode cJ22_init 4 = .ok (.return_, 1) := by decide +kernel
