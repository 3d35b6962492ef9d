/-! decode rows of J5 -/
set_option maxRecDepth 100000
abbrev cJ5_init : ByteArray := prog_40_method_1_code
def yJ5_init : MethodName := ⟨RJ5, "<init>", "()V"⟩
def dkwJ5_init_0 : List UInt8 := [42, 16, 16, 183, 0, 1, 177]
abbrev dktJ5_init_0 : List UInt8 := dkwJ5_init_0 ++ []
theorem dksJ5_init_0 : cJ5_init.data.toList.drop 0 = dktJ5_init_0 := by decide +kernel
theorem dJ5_init_0 : decode cJ5_init 0 = .ok (.aload_n 0, 1) := dk_42 (dk_at dksJ5_init_0 0 rfl rfl)
theorem dJ5_init_1 : decode cJ5_init 1 = .ok (.bipush 16, 2) := dk_16 16 (dk_at dksJ5_init_0 1 rfl rfl)
theorem dJ5_init_3 : decode cJ5_init 3 = .ok (.invokespecial 1, 3) := dk_183 0 1 (dk_at dksJ5_init_0 3 rfl rfl)
theorem dJ5_init_6 : decode cJ5_init 6 = .ok (.return_, 1) := dk_177 (dk_at dksJ5_init_0 6 rfl rfl)
abbrev cJ5_append : ByteArray := prog_40_method_14_code
def yJ5_append : MethodName := ⟨RJ5, "append", "(C)Ljava/lang/StringBuilder;"⟩
def dkwJ5_append_0 : List UInt8 := [42, 27, 183, 0, 50, 87, 42, 176]
abbrev dktJ5_append_0 : List UInt8 := dkwJ5_append_0 ++ []
theorem dksJ5_append_0 : cJ5_append.data.toList.drop 0 = dktJ5_append_0 := by decide +kernel
theorem dJ5_append_0 : decode cJ5_append 0 = .ok (.aload_n 0, 1) := dk_42 (dk_at dksJ5_append_0 0 rfl rfl)
theorem dJ5_append_1 : decode cJ5_append 1 = .ok (.iload_n 1, 1) := dk_27 (dk_at dksJ5_append_0 1 rfl rfl)
theorem dJ5_append_2 : decode cJ5_append 2 = .ok (.invokespecial 50, 3) := dk_183 0 50 (dk_at dksJ5_append_0 2 rfl rfl)
theorem dJ5_append_5 : decode cJ5_append 5 = .ok (.pop, 1) := dk_87 (dk_at dksJ5_append_0 5 rfl rfl)
theorem dJ5_append_6 : decode cJ5_append 6 = .ok (.aload_n 0, 1) := dk_42 (dk_at dksJ5_append_0 6 rfl rfl)
theorem dJ5_append_7 : decode cJ5_append 7 = .ok (.areturn, 1) := dk_176 (dk_at dksJ5_append_0 7 rfl rfl)
abbrev cJ5_toString : ByteArray := prog_40_method_42_code
def yJ5_toString : MethodName := ⟨RJ5, "toString", "()Ljava/lang/String;"⟩
def dkwJ5_toString_0 : List UInt8 := [187, 0, 18, 89, 42, 183, 0, 137, 176]
abbrev dktJ5_toString_0 : List UInt8 := dkwJ5_toString_0 ++ []
theorem dksJ5_toString_0 : cJ5_toString.data.toList.drop 0 = dktJ5_toString_0 := by decide +kernel
theorem dJ5_toString_0 : decode cJ5_toString 0 = .ok (.new 18, 3) := dk_187 0 18 (dk_at dksJ5_toString_0 0 rfl rfl)
theorem dJ5_toString_3 : decode cJ5_toString 3 = .ok (.dup, 1) := dk_89 (dk_at dksJ5_toString_0 3 rfl rfl)
theorem dJ5_toString_4 : decode cJ5_toString 4 = .ok (.aload_n 0, 1) := dk_42 (dk_at dksJ5_toString_0 4 rfl rfl)
theorem dJ5_toString_5 : decode cJ5_toString 5 = .ok (.invokespecial 137, 3) := dk_183 0 137 (dk_at dksJ5_toString_0 5 rfl rfl)
theorem dJ5_toString_8 : decode cJ5_toString 8 = .ok (.areturn, 1) := dk_176 (dk_at dksJ5_toString_0 8 rfl rfl)
abbrev cJ5_length : ByteArray := prog_40_method_93_code
def yJ5_length : MethodName := ⟨RJ5, "length", "()I"⟩
theorem dJ5_length_0 : decode cJ5_length 0 = .ok (.aload_n 0, 1) := by decide +kernel
theorem dJ5_length_1 : decode cJ5_length 1 = .ok (.invokespecial 343, 3) := by decide +kernel
theorem dJ5_length_4 : decode cJ5_length 4 = .ok (.ireturn, 1) := by decide +kernel
abbrev cJ5_append_2 : ByteArray := prog_40_method_15_code
def yJ5_append_2 : MethodName := ⟨RJ5, "append", "(I)Ljava/lang/StringBuilder;"⟩
def dkwJ5_append_2_0 : List UInt8 := [42, 27, 183, 0, 53, 87, 42, 176]
abbrev dktJ5_append_2_0 : List UInt8 := dkwJ5_append_2_0 ++ []
theorem dksJ5_append_2_0 : cJ5_append_2.data.toList.drop 0 = dktJ5_append_2_0 := by decide +kernel
theorem dJ5_append_2_0 : decode cJ5_append_2 0 = .ok (.aload_n 0, 1) := dk_42 (dk_at dksJ5_append_2_0 0 rfl rfl)
theorem dJ5_append_2_1 : decode cJ5_append_2 1 = .ok (.iload_n 1, 1) := dk_27 (dk_at dksJ5_append_2_0 1 rfl rfl)
theorem dJ5_append_2_2 : decode cJ5_append_2 2 = .ok (.invokespecial 53, 3) := dk_183 0 53 (dk_at dksJ5_append_2_0 2 rfl rfl)
theorem dJ5_append_2_5 : decode cJ5_append_2 5 = .ok (.pop, 1) := dk_87 (dk_at dksJ5_append_2_0 5 rfl rfl)
theorem dJ5_append_2_6 : decode cJ5_append_2 6 = .ok (.aload_n 0, 1) := dk_42 (dk_at dksJ5_append_2_0 6 rfl rfl)
theorem dJ5_append_2_7 : decode cJ5_append_2 7 = .ok (.areturn, 1) := dk_176 (dk_at dksJ5_append_2_0 7 rfl rfl)
abbrev cJ5_append_3 : ByteArray := prog_40_method_7_code
def yJ5_append_3 : MethodName := ⟨RJ5, "append", "(Ljava/lang/String;)Ljava/lang/StringBuilder;"⟩
def dkwJ5_append_3_0 : List UInt8 := [42, 43, 183, 0, 29, 87, 42, 176]
abbrev dktJ5_append_3_0 : List UInt8 := dkwJ5_append_3_0 ++ []
theorem dksJ5_append_3_0 : cJ5_append_3.data.toList.drop 0 = dktJ5_append_3_0 := by decide +kernel
theorem dJ5_append_3_0 : decode cJ5_append_3 0 = .ok (.aload_n 0, 1) := dk_42 (dk_at dksJ5_append_3_0 0 rfl rfl)
theorem dJ5_append_3_1 : decode cJ5_append_3 1 = .ok (.aload_n 1, 1) := dk_43 (dk_at dksJ5_append_3_0 1 rfl rfl)
theorem dJ5_append_3_2 : decode cJ5_append_3 2 = .ok (.invokespecial 29, 3) := dk_183 0 29 (dk_at dksJ5_append_3_0 2 rfl rfl)
theorem dJ5_append_3_5 : decode cJ5_append_3 5 = .ok (.pop, 1) := dk_87 (dk_at dksJ5_append_3_0 5 rfl rfl)
theorem dJ5_append_3_6 : decode cJ5_append_3 6 = .ok (.aload_n 0, 1) := dk_42 (dk_at dksJ5_append_3_0 6 rfl rfl)
theorem dJ5_append_3_7 : decode cJ5_append_3 7 = .ok (.areturn, 1) := dk_176 (dk_at dksJ5_append_3_0 7 rfl rfl)
