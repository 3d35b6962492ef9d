/-! decode rows of X14 -/
set_option maxRecDepth 100000
abbrev cX14_init : ByteArray := prog_15_method_1_code
def yX14_init : MethodName := ⟨RX14, "<init>", "(Z)V"⟩
def dkwX14_init_0 : List UInt8 := [42, 183, 0, 1, 42, 27, 181, 0, 7, 177]
abbrev dktX14_init_0 : List UInt8 := dkwX14_init_0 ++ []
theorem dksX14_init_0 : cX14_init.data.toList.drop 0 = dktX14_init_0 := by decide +kernel
theorem dX14_init_0 : decode cX14_init 0 = .ok (.aload_n 0, 1) := dk_42 (dk_at dksX14_init_0 0 rfl rfl)
theorem dX14_init_1 : decode cX14_init 1 = .ok (.invokespecial 1, 3) := dk_183 0 1 (dk_at dksX14_init_0 1 rfl rfl)
theorem dX14_init_4 : decode cX14_init 4 = .ok (.aload_n 0, 1) := dk_42 (dk_at dksX14_init_0 4 rfl rfl)
theorem dX14_init_5 : decode cX14_init 5 = .ok (.iload_n 1, 1) := dk_27 (dk_at dksX14_init_0 5 rfl rfl)
theorem dX14_init_6 : decode cX14_init 6 = .ok (.putfield 7, 3) := dk_181 0 7 (dk_at dksX14_init_0 6 rfl rfl)
theorem dX14_init_9 : decode cX14_init 9 = .ok (.return_, 1) := dk_177 (dk_at dksX14_init_0 9 rfl rfl)
abbrev cX14_holds : ByteArray := prog_15_method_2_code
def yX14_holds : MethodName := ⟨RX14, "holds", "(LHungFaces$Scene;)Z"⟩
def dkwX14_holds_0 : List UInt8 := [42, 180, 0, 7, 153, 0, 10, 43, 180, 0, 13, 167, 0, 7, 43, 180, 0, 16, 172]
abbrev dktX14_holds_0 : List UInt8 := dkwX14_holds_0 ++ []
theorem dksX14_holds_0 : cX14_holds.data.toList.drop 0 = dktX14_holds_0 := by decide +kernel
theorem dX14_holds_0 : decode cX14_holds 0 = .ok (.aload_n 0, 1) := dk_42 (dk_at dksX14_holds_0 0 rfl rfl)
theorem dX14_holds_1 : decode cX14_holds 1 = .ok (.getfield 7, 3) := dk_180 0 7 (dk_at dksX14_holds_0 1 rfl rfl)
theorem dX14_holds_4 : decode cX14_holds 4 = .ok (.ifCond .eq 10, 3) := dk_153 0 10 (dk_at dksX14_holds_0 4 rfl rfl)
theorem dX14_holds_7 : decode cX14_holds 7 = .ok (.aload_n 1, 1) := dk_43 (dk_at dksX14_holds_0 7 rfl rfl)
theorem dX14_holds_8 : decode cX14_holds 8 = .ok (.getfield 13, 3) := dk_180 0 13 (dk_at dksX14_holds_0 8 rfl rfl)
theorem dX14_holds_11 : decode cX14_holds 11 = .ok (.goto 7, 3) := dk_167 0 7 (dk_at dksX14_holds_0 11 rfl rfl)
theorem dX14_holds_14 : decode cX14_holds 14 = .ok (.aload_n 1, 1) := dk_43 (dk_at dksX14_holds_0 14 rfl rfl)
theorem dX14_holds_15 : decode cX14_holds 15 = .ok (.getfield 16, 3) := dk_180 0 16 (dk_at dksX14_holds_0 15 rfl rfl)
theorem dX14_holds_18 : decode cX14_holds 18 = .ok (.ireturn, 1) := dk_172 (dk_at dksX14_holds_0 18 rfl rfl)
