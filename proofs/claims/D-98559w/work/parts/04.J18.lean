/-! decode rows of J18 -/
set_option maxRecDepth 100000
abbrev cJ18_ordinal : ByteArray := prog_29_method_2_code
def yJ18_ordinal : MethodName := ⟨RJ18, "ordinal", "()I"⟩
theorem dJ18_ordinal_0 : decode cJ18_ordinal 0 = .ok (.aload_n 0, 1) := by decide +kernel
theorem dJ18_ordinal_1 : decode cJ18_ordinal 1 = .ok (.getfield 7, 3) := by decide +kernel
theorem dJ18_ordinal_4 : decode cJ18_ordinal 4 = .ok (.ireturn, 1) := by decide +kernel
