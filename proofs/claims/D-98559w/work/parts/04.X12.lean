/-! decode rows of X12 -/
set_option maxRecDepth 100000
abbrev cX12_init : ByteArray := prog_12_method_1_code
def yX12_init : MethodName := ⟨RX12, "<init>", "(Z)V"⟩
def dkwX12_init_0 : List UInt8 := [42, 183, 0, 1, 42, 187, 0, 7, 89, 183, 0, 9, 181, 0, 10, 42, 27, 181, 0, 16, 177]
abbrev dktX12_init_0 : List UInt8 := dkwX12_init_0 ++ []
theorem dksX12_init_0 : cX12_init.data.toList.drop 0 = dktX12_init_0 := by decide +kernel
theorem dX12_init_0 : decode cX12_init 0 = .ok (.aload_n 0, 1) := dk_42 (dk_at dksX12_init_0 0 rfl rfl)
theorem dX12_init_1 : decode cX12_init 1 = .ok (.invokespecial 1, 3) := dk_183 0 1 (dk_at dksX12_init_0 1 rfl rfl)
theorem dX12_init_4 : decode cX12_init 4 = .ok (.aload_n 0, 1) := dk_42 (dk_at dksX12_init_0 4 rfl rfl)
theorem dX12_init_5 : decode cX12_init 5 = .ok (.new 7, 3) := dk_187 0 7 (dk_at dksX12_init_0 5 rfl rfl)
theorem dX12_init_8 : decode cX12_init 8 = .ok (.dup, 1) := dk_89 (dk_at dksX12_init_0 8 rfl rfl)
theorem dX12_init_9 : decode cX12_init 9 = .ok (.invokespecial 9, 3) := dk_183 0 9 (dk_at dksX12_init_0 9 rfl rfl)
theorem dX12_init_12 : decode cX12_init 12 = .ok (.putfield 10, 3) := dk_181 0 10 (dk_at dksX12_init_0 12 rfl rfl)
theorem dX12_init_15 : decode cX12_init 15 = .ok (.aload_n 0, 1) := dk_42 (dk_at dksX12_init_0 15 rfl rfl)
theorem dX12_init_16 : decode cX12_init 16 = .ok (.iload_n 1, 1) := dk_27 (dk_at dksX12_init_0 16 rfl rfl)
theorem dX12_init_17 : decode cX12_init 17 = .ok (.putfield 16, 3) := dk_181 0 16 (dk_at dksX12_init_0 17 rfl rfl)
theorem dX12_init_20 : decode cX12_init 20 = .ok (.return_, 1) := dk_177 (dk_at dksX12_init_0 20 rfl rfl)
abbrev cX12_holds : ByteArray := prog_12_method_2_code
def yX12_holds : MethodName := ⟨RX12, "holds", "(LHungFaces$Scene;)Z"⟩
def dkwX12_holds_2 : List UInt8 := [3, 172, 132, 2, 1, 167, 255, 205, 42, 180, 0, 16, 172]
abbrev dktX12_holds_2 : List UInt8 := dkwX12_holds_2 ++ []
def dkwX12_holds_1 : List UInt8 := [43, 185, 0, 30, 2, 0, 42, 180, 0, 16, 159, 0, 16, 42, 180, 0, 16, 154, 0, 7, 4, 167, 0, 4]
abbrev dktX12_holds_1 : List UInt8 := dkwX12_holds_1 ++ dktX12_holds_2
def dkwX12_holds_0 : List UInt8 := [3, 61, 28, 42, 180, 0, 10, 182, 0, 20, 162, 0, 46, 42, 180, 0, 10, 28, 182, 0, 24, 192, 0, 28]
abbrev dktX12_holds_0 : List UInt8 := dkwX12_holds_0 ++ dktX12_holds_1
theorem dksX12_holds_0 : cX12_holds.data.toList.drop 0 = dktX12_holds_0 := by decide +kernel
theorem dksX12_holds_1 : cX12_holds.data.toList.drop 24 = dktX12_holds_1 := dk_seg dksX12_holds_0 24 rfl rfl
theorem dksX12_holds_2 : cX12_holds.data.toList.drop 48 = dktX12_holds_2 := dk_seg dksX12_holds_1 24 rfl rfl
theorem dX12_holds_0 : decode cX12_holds 0 = .ok (.iconst 0, 1) := dk_3 (dk_at dksX12_holds_0 0 rfl rfl)
theorem dX12_holds_1 : decode cX12_holds 1 = .ok (.istore_n 2, 1) := dk_61 (dk_at dksX12_holds_0 1 rfl rfl)
theorem dX12_holds_2 : decode cX12_holds 2 = .ok (.iload_n 2, 1) := dk_28 (dk_at dksX12_holds_0 2 rfl rfl)
theorem dX12_holds_3 : decode cX12_holds 3 = .ok (.aload_n 0, 1) := dk_42 (dk_at dksX12_holds_0 3 rfl rfl)
theorem dX12_holds_4 : decode cX12_holds 4 = .ok (.getfield 10, 3) := dk_180 0 10 (dk_at dksX12_holds_0 4 rfl rfl)
theorem dX12_holds_7 : decode cX12_holds 7 = .ok (.invokevirtual 20, 3) := dk_182 0 20 (dk_at dksX12_holds_0 7 rfl rfl)
theorem dX12_holds_10 : decode cX12_holds 10 = .ok (.if_icmp .ge 46, 3) := dk_162 0 46 (dk_at dksX12_holds_0 10 rfl rfl)
theorem dX12_holds_13 : decode cX12_holds 13 = .ok (.aload_n 0, 1) := dk_42 (dk_at dksX12_holds_0 13 rfl rfl)
theorem dX12_holds_14 : decode cX12_holds 14 = .ok (.getfield 10, 3) := dk_180 0 10 (dk_at dksX12_holds_0 14 rfl rfl)
theorem dX12_holds_17 : decode cX12_holds 17 = .ok (.iload_n 2, 1) := dk_28 (dk_at dksX12_holds_0 17 rfl rfl)
theorem dX12_holds_18 : decode cX12_holds 18 = .ok (.invokevirtual 24, 3) := dk_182 0 24 (dk_at dksX12_holds_0 18 rfl rfl)
theorem dX12_holds_21 : decode cX12_holds 21 = .ok (.checkcast 28, 3) := dk_192 0 28 (dk_at dksX12_holds_0 21 rfl rfl)
theorem dX12_holds_24 : decode cX12_holds 24 = .ok (.aload_n 1, 1) := dk_43 (dk_at dksX12_holds_1 0 rfl rfl)
theorem dX12_holds_25 : decode cX12_holds 25 = .ok (.invokeinterface 30 2, 5) := by decide +kernel
theorem dX12_holds_30 : decode cX12_holds 30 = .ok (.aload_n 0, 1) := dk_42 (dk_at dksX12_holds_1 6 rfl rfl)
theorem dX12_holds_31 : decode cX12_holds 31 = .ok (.getfield 16, 3) := dk_180 0 16 (dk_at dksX12_holds_1 7 rfl rfl)
theorem dX12_holds_34 : decode cX12_holds 34 = .ok (.if_icmp .eq 16, 3) := dk_159 0 16 (dk_at dksX12_holds_1 10 rfl rfl)
theorem dX12_holds_37 : decode cX12_holds 37 = .ok (.aload_n 0, 1) := dk_42 (dk_at dksX12_holds_1 13 rfl rfl)
theorem dX12_holds_38 : decode cX12_holds 38 = .ok (.getfield 16, 3) := dk_180 0 16 (dk_at dksX12_holds_1 14 rfl rfl)
theorem dX12_holds_41 : decode cX12_holds 41 = .ok (.ifCond .ne 7, 3) := dk_154 0 7 (dk_at dksX12_holds_1 17 rfl rfl)
theorem dX12_holds_44 : decode cX12_holds 44 = .ok (.iconst 1, 1) := dk_4 (dk_at dksX12_holds_1 20 rfl rfl)
theorem dX12_holds_45 : decode cX12_holds 45 = .ok (.goto 4, 3) := dk_167 0 4 (dk_at dksX12_holds_1 21 rfl rfl)
theorem dX12_holds_48 : decode cX12_holds 48 = .ok (.iconst 0, 1) := dk_3 (dk_at dksX12_holds_2 0 rfl rfl)
theorem dX12_holds_49 : decode cX12_holds 49 = .ok (.ireturn, 1) := dk_172 (dk_at dksX12_holds_2 1 rfl rfl)
theorem dX12_holds_50 : decode cX12_holds 50 = .ok (.iinc 2 1, 3) := dk_132 2 1 (dk_at dksX12_holds_2 2 rfl rfl)
theorem dX12_holds_53 : decode cX12_holds 53 = .ok (.goto (-51), 3) := dk_167 255 205 (dk_at dksX12_holds_2 5 rfl rfl)
theorem dX12_holds_56 : decode cX12_holds 56 = .ok (.aload_n 0, 1) := dk_42 (dk_at dksX12_holds_2 8 rfl rfl)
theorem dX12_holds_57 : decode cX12_holds 57 = .ok (.getfield 16, 3) := dk_180 0 16 (dk_at dksX12_holds_2 9 rfl rfl)
theorem dX12_holds_60 : decode cX12_holds 60 = .ok (.ireturn, 1) := dk_172 (dk_at dksX12_holds_2 12 rfl rfl)
