/-! decode rows of X4 -/
set_option maxRecDepth 100000
abbrev cX4_init : ByteArray := prog_13_method_1_code
def yX4_init : MethodName := ⟨RX4, "<init>", "()V"⟩
theorem dX4_init_0 : decode cX4_init 0 = .ok (.aload_n 0, 1) := by decide +kernel
theorem dX4_init_1 : decode cX4_init 1 = .ok (.invokespecial 1, 3) := by decide +kernel
theorem dX4_init_4 : decode cX4_init 4 = .ok (.return_, 1) := by decide +kernel
abbrev cX4_of : ByteArray := prog_13_method_2_code
def yX4_of : MethodName := ⟨RX4, "of", "(LHungFaces$Fact;)I"⟩
def dkwX4_of_3 : List UInt8 := [172, 42, 180, 0, 31, 172]
abbrev dktX4_of_3 : List UInt8 := dkwX4_of_3 ++ []
def dkwX4_of_2 : List UInt8 := [42, 180, 0, 13, 172, 42, 180, 0, 19, 172, 42, 180, 0, 22, 172, 42, 180, 0, 25, 172, 42, 180, 0, 28]
abbrev dktX4_of_2 : List UInt8 := dkwX4_of_2 ++ dktX4_of_3
def dkwX4_of_1 : List UInt8 := [170, 0, 0, 0, 0, 0, 0, 61, 0, 0, 0, 0, 0, 0, 0, 4, 0, 0, 0, 36, 0, 0, 0, 41, 0, 0, 0, 46, 0, 0, 0, 51, 0, 0, 0, 56]
abbrev dktX4_of_1 : List UInt8 := dkwX4_of_1 ++ dktX4_of_2
def dkwX4_of_0 : List UInt8 := [43, 182, 0, 7]
abbrev dktX4_of_0 : List UInt8 := dkwX4_of_0 ++ dktX4_of_1
theorem dksX4_of_0 : cX4_of.data.toList.drop 0 = dktX4_of_0 := by decide +kernel
theorem dksX4_of_1 : cX4_of.data.toList.drop 4 = dktX4_of_1 := dk_seg dksX4_of_0 4 rfl rfl
theorem dksX4_of_2 : cX4_of.data.toList.drop 40 = dktX4_of_2 := dk_seg dksX4_of_1 36 rfl rfl
theorem dksX4_of_3 : cX4_of.data.toList.drop 64 = dktX4_of_3 := dk_seg dksX4_of_2 24 rfl rfl
theorem dX4_of_0 : decode cX4_of 0 = .ok (.aload_n 1, 1) := dk_43 (dk_at dksX4_of_0 0 rfl rfl)
theorem dX4_of_1 : decode cX4_of 1 = .ok (.invokevirtual 7, 3) := dk_182 0 7 (dk_at dksX4_of_0 1 rfl rfl)
theorem dX4_of_4 : decode cX4_of 4 = .ok (.tableswitch 61 0 4 #[36, 41, 46, 51, 56], 36) := by decide +kernel
theorem dX4_of_40 : decode cX4_of 40 = .ok (.aload_n 0, 1) := dk_42 (dk_at dksX4_of_2 0 rfl rfl)
theorem dX4_of_41 : decode cX4_of 41 = .ok (.getfield 13, 3) := dk_180 0 13 (dk_at dksX4_of_2 1 rfl rfl)
theorem dX4_of_44 : decode cX4_of 44 = .ok (.ireturn, 1) := dk_172 (dk_at dksX4_of_2 4 rfl rfl)
theorem dX4_of_45 : decode cX4_of 45 = .ok (.aload_n 0, 1) := dk_42 (dk_at dksX4_of_2 5 rfl rfl)
theorem dX4_of_46 : decode cX4_of 46 = .ok (.getfield 19, 3) := dk_180 0 19 (dk_at dksX4_of_2 6 rfl rfl)
theorem dX4_of_49 : decode cX4_of 49 = .ok (.ireturn, 1) := dk_172 (dk_at dksX4_of_2 9 rfl rfl)
theorem dX4_of_50 : decode cX4_of 50 = .ok (.aload_n 0, 1) := dk_42 (dk_at dksX4_of_2 10 rfl rfl)
theorem dX4_of_51 : decode cX4_of 51 = .ok (.getfield 22, 3) := dk_180 0 22 (dk_at dksX4_of_2 11 rfl rfl)
theorem dX4_of_54 : decode cX4_of 54 = .ok (.ireturn, 1) := dk_172 (dk_at dksX4_of_2 14 rfl rfl)
theorem dX4_of_55 : decode cX4_of 55 = .ok (.aload_n 0, 1) := dk_42 (dk_at dksX4_of_2 15 rfl rfl)
theorem dX4_of_56 : decode cX4_of 56 = .ok (.getfield 25, 3) := dk_180 0 25 (dk_at dksX4_of_2 16 rfl rfl)
theorem dX4_of_59 : decode cX4_of 59 = .ok (.ireturn, 1) := dk_172 (dk_at dksX4_of_2 19 rfl rfl)
theorem dX4_of_60 : decode cX4_of 60 = .ok (.aload_n 0, 1) := dk_42 (dk_at dksX4_of_2 20 rfl rfl)
theorem dX4_of_61 : decode cX4_of 61 = .ok (.getfield 28, 3) := dk_180 0 28 (dk_at dksX4_of_2 21 rfl rfl)
theorem dX4_of_64 : decode cX4_of 64 = .ok (.ireturn, 1) := dk_172 (dk_at dksX4_of_3 0 rfl rfl)
theorem dX4_of_65 : decode cX4_of 65 = .ok (.aload_n 0, 1) := dk_42 (dk_at dksX4_of_3 1 rfl rfl)
theorem dX4_of_66 : decode cX4_of 66 = .ok (.getfield 31, 3) := dk_180 0 31 (dk_at dksX4_of_3 2 rfl rfl)
theorem dX4_of_69 : decode cX4_of 69 = .ok (.ireturn, 1) := dk_172 (dk_at dksX4_of_3 5 rfl rfl)
