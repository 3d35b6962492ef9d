/-! decode rows of X17 -/
set_option maxRecDepth 100000
abbrev cX17_of : ByteArray := prog_3_method_4_code
def yX17_of : MethodName := ⟨RX17, "of", "(Ljava/lang/String;)LHungFaces$Fact;"⟩
def dkwX17_of_1 : List UInt8 := [42, 182, 0, 49, 153, 0, 6, 25, 4, 176, 132, 3, 1, 167, 255, 228, 1, 176]
abbrev dktX17_of_1 : List UInt8 := dkwX17_of_1 ++ []
def dkwX17_of_0 : List UInt8 := [184, 0, 45, 76, 43, 190, 61, 3, 62, 29, 28, 162, 0, 29, 43, 29, 50, 58, 4, 25, 4, 180, 0, 41]
abbrev dktX17_of_0 : List UInt8 := dkwX17_of_0 ++ dktX17_of_1
theorem dksX17_of_0 : cX17_of.data.toList.drop 0 = dktX17_of_0 := by decide +kernel
theorem dksX17_of_1 : cX17_of.data.toList.drop 24 = dktX17_of_1 := dk_seg dksX17_of_0 24 rfl rfl
theorem dX17_of_0 : decode cX17_of 0 = .ok (.invokestatic 45, 3) := dk_184 0 45 (dk_at dksX17_of_0 0 rfl rfl)
theorem dX17_of_3 : decode cX17_of 3 = .ok (.astore_n 1, 1) := dk_76 (dk_at dksX17_of_0 3 rfl rfl)
theorem dX17_of_4 : decode cX17_of 4 = .ok (.aload_n 1, 1) := dk_43 (dk_at dksX17_of_0 4 rfl rfl)
theorem dX17_of_5 : decode cX17_of 5 = .ok (.arraylength, 1) := dk_190 (dk_at dksX17_of_0 5 rfl rfl)
theorem dX17_of_6 : decode cX17_of 6 = .ok (.istore_n 2, 1) := dk_61 (dk_at dksX17_of_0 6 rfl rfl)
theorem dX17_of_7 : decode cX17_of 7 = .ok (.iconst 0, 1) := dk_3 (dk_at dksX17_of_0 7 rfl rfl)
theorem dX17_of_8 : decode cX17_of 8 = .ok (.istore_n 3, 1) := dk_62 (dk_at dksX17_of_0 8 rfl rfl)
theorem dX17_of_9 : decode cX17_of 9 = .ok (.iload_n 3, 1) := dk_29 (dk_at dksX17_of_0 9 rfl rfl)
theorem dX17_of_10 : decode cX17_of 10 = .ok (.iload_n 2, 1) := dk_28 (dk_at dksX17_of_0 10 rfl rfl)
theorem dX17_of_11 : decode cX17_of 11 = .ok (.if_icmp .ge 29, 3) := dk_162 0 29 (dk_at dksX17_of_0 11 rfl rfl)
theorem dX17_of_14 : decode cX17_of 14 = .ok (.aload_n 1, 1) := dk_43 (dk_at dksX17_of_0 14 rfl rfl)
theorem dX17_of_15 : decode cX17_of 15 = .ok (.iload_n 3, 1) := dk_29 (dk_at dksX17_of_0 15 rfl rfl)
theorem dX17_of_16 : decode cX17_of 16 = .ok (.aaload, 1) := dk_50 (dk_at dksX17_of_0 16 rfl rfl)
theorem dX17_of_17 : decode cX17_of 17 = .ok (.astore 4, 2) := dk_58 4 (dk_at dksX17_of_0 17 rfl rfl)
theorem dX17_of_19 : decode cX17_of 19 = .ok (.aload 4, 2) := dk_25 4 (dk_at dksX17_of_0 19 rfl rfl)
theorem dX17_of_21 : decode cX17_of 21 = .ok (.getfield 41, 3) := dk_180 0 41 (dk_at dksX17_of_0 21 rfl rfl)
theorem dX17_of_24 : decode cX17_of 24 = .ok (.aload_n 0, 1) := dk_42 (dk_at dksX17_of_1 0 rfl rfl)
theorem dX17_of_25 : decode cX17_of 25 = .ok (.invokevirtual 49, 3) := dk_182 0 49 (dk_at dksX17_of_1 1 rfl rfl)
theorem dX17_of_28 : decode cX17_of 28 = .ok (.ifCond .eq 6, 3) := dk_153 0 6 (dk_at dksX17_of_1 4 rfl rfl)
theorem dX17_of_31 : decode cX17_of 31 = .ok (.aload 4, 2) := dk_25 4 (dk_at dksX17_of_1 7 rfl rfl)
theorem dX17_of_33 : decode cX17_of 33 = .ok (.areturn, 1) := dk_176 (dk_at dksX17_of_1 9 rfl rfl)
theorem dX17_of_34 : decode cX17_of 34 = .ok (.iinc 3 1, 3) := dk_132 3 1 (dk_at dksX17_of_1 10 rfl rfl)
theorem dX17_of_37 : decode cX17_of 37 = .ok (.goto (-28), 3) := dk_167 255 228 (dk_at dksX17_of_1 13 rfl rfl)
theorem dX17_of_40 : decode cX17_of 40 = .ok (.aconst_null, 1) := dk_1 (dk_at dksX17_of_1 16 rfl rfl)
theorem dX17_of_41 : decode cX17_of 41 = .ok (.areturn, 1) := dk_176 (dk_at dksX17_of_1 17 rfl rfl)
abbrev cX17_values : ByteArray := prog_3_method_1_code
def yX17_values : MethodName := ⟨RX17, "values", "()[LHungFaces$Fact;"⟩
def dkwX17_values_0 : List UInt8 := [178, 0, 22, 182, 0, 26, 192, 0, 27, 176]
abbrev dktX17_values_0 : List UInt8 := dkwX17_values_0 ++ []
theorem dksX17_values_0 : cX17_values.data.toList.drop 0 = dktX17_values_0 := by decide +kernel
theorem dX17_values_0 : decode cX17_values 0 = .ok (.getstatic 22, 3) := dk_178 0 22 (dk_at dksX17_values_0 0 rfl rfl)
theorem dX17_values_3 : decode cX17_values 3 = .ok (.invokevirtual 26, 3) := dk_182 0 26 (dk_at dksX17_values_0 3 rfl rfl)
theorem dX17_values_6 : decode cX17_values 6 = .ok (.checkcast 27, 3) := dk_192 0 27 (dk_at dksX17_values_0 6 rfl rfl)
theorem dX17_values_9 : decode cX17_values 9 = .ok (.areturn, 1) := dk_176 (dk_at dksX17_values_0 9 rfl rfl)
