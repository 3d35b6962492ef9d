/-! decode rows of J12 -/
set_option maxRecDepth 100000
abbrev cJ12_init : ByteArray := prog_45_method_1_code
def yJ12_init : MethodName := ⟨RJ12, "<init>", "()V"⟩
def dkwJ12_init_1 : List UInt8 := [182, 0, 27, 87, 177]
abbrev dktJ12_init_1 : List UInt8 := dkwJ12_init_1 ++ []
def dkwJ12_init_0 : List UInt8 := [42, 183, 0, 1, 42, 42, 181, 0, 7, 42, 178, 0, 13, 181, 0, 17, 42, 178, 0, 20, 181, 0, 24, 42]
abbrev dktJ12_init_0 : List UInt8 := dkwJ12_init_0 ++ dktJ12_init_1
theorem dksJ12_init_0 : cJ12_init.data.toList.drop 0 = dktJ12_init_0 := by decide +kernel
theorem dksJ12_init_1 : cJ12_init.data.toList.drop 24 = dktJ12_init_1 := dk_seg dksJ12_init_0 24 rfl rfl
theorem dJ12_init_0 : decode cJ12_init 0 = .ok (.aload_n 0, 1) := dk_42 (dk_at dksJ12_init_0 0 rfl rfl)
theorem dJ12_init_1 : decode cJ12_init 1 = .ok (.invokespecial 1, 3) := dk_183 0 1 (dk_at dksJ12_init_0 1 rfl rfl)
theorem dJ12_init_4 : decode cJ12_init 4 = .ok (.aload_n 0, 1) := dk_42 (dk_at dksJ12_init_0 4 rfl rfl)
theorem dJ12_init_5 : decode cJ12_init 5 = .ok (.aload_n 0, 1) := dk_42 (dk_at dksJ12_init_0 5 rfl rfl)
theorem dJ12_init_6 : decode cJ12_init 6 = .ok (.putfield 7, 3) := dk_181 0 7 (dk_at dksJ12_init_0 6 rfl rfl)
theorem dJ12_init_9 : decode cJ12_init 9 = .ok (.aload_n 0, 1) := dk_42 (dk_at dksJ12_init_0 9 rfl rfl)
theorem dJ12_init_10 : decode cJ12_init 10 = .ok (.getstatic 13, 3) := dk_178 0 13 (dk_at dksJ12_init_0 10 rfl rfl)
theorem dJ12_init_13 : decode cJ12_init 13 = .ok (.putfield 17, 3) := dk_181 0 17 (dk_at dksJ12_init_0 13 rfl rfl)
theorem dJ12_init_16 : decode cJ12_init 16 = .ok (.aload_n 0, 1) := dk_42 (dk_at dksJ12_init_0 16 rfl rfl)
theorem dJ12_init_17 : decode cJ12_init 17 = .ok (.getstatic 20, 3) := dk_178 0 20 (dk_at dksJ12_init_0 17 rfl rfl)
theorem dJ12_init_20 : decode cJ12_init 20 = .ok (.putfield 24, 3) := dk_181 0 24 (dk_at dksJ12_init_0 20 rfl rfl)
theorem dJ12_init_23 : decode cJ12_init 23 = .ok (.aload_n 0, 1) := dk_42 (dk_at dksJ12_init_0 23 rfl rfl)
theorem dJ12_init_24 : decode cJ12_init 24 = .ok (.invokevirtual 27, 3) := dk_182 0 27 (dk_at dksJ12_init_1 0 rfl rfl)
theorem dJ12_init_27 : decode cJ12_init 27 = .ok (.pop, 1) := dk_87 (dk_at dksJ12_init_1 3 rfl rfl)
theorem dJ12_init_28 : decode cJ12_init 28 = .ok (.return_, 1) := dk_177 (dk_at dksJ12_init_1 4 rfl rfl)
abbrev cJ12_init_2 : ByteArray := prog_45_method_2_code
def yJ12_init_2 : MethodName := ⟨RJ12, "<init>", "(Ljava/lang/String;)V"⟩
def dkwJ12_init_2_1 : List UInt8 := [182, 0, 27, 87, 42, 43, 181, 0, 31, 177]
abbrev dktJ12_init_2_1 : List UInt8 := dkwJ12_init_2_1 ++ []
def dkwJ12_init_2_0 : List UInt8 := [42, 183, 0, 1, 42, 42, 181, 0, 7, 42, 178, 0, 13, 181, 0, 17, 42, 178, 0, 20, 181, 0, 24, 42]
abbrev dktJ12_init_2_0 : List UInt8 := dkwJ12_init_2_0 ++ dktJ12_init_2_1
theorem dksJ12_init_2_0 : cJ12_init_2.data.toList.drop 0 = dktJ12_init_2_0 := by decide +kernel
theorem dksJ12_init_2_1 : cJ12_init_2.data.toList.drop 24 = dktJ12_init_2_1 := dk_seg dksJ12_init_2_0 24 rfl rfl
theorem dJ12_init_2_0 : decode cJ12_init_2 0 = .ok (.aload_n 0, 1) := dk_42 (dk_at dksJ12_init_2_0 0 rfl rfl)
theorem dJ12_init_2_1 : decode cJ12_init_2 1 = .ok (.invokespecial 1, 3) := dk_183 0 1 (dk_at dksJ12_init_2_0 1 rfl rfl)
theorem dJ12_init_2_4 : decode cJ12_init_2 4 = .ok (.aload_n 0, 1) := dk_42 (dk_at dksJ12_init_2_0 4 rfl rfl)
theorem dJ12_init_2_5 : decode cJ12_init_2 5 = .ok (.aload_n 0, 1) := dk_42 (dk_at dksJ12_init_2_0 5 rfl rfl)
theorem dJ12_init_2_6 : decode cJ12_init_2 6 = .ok (.putfield 7, 3) := dk_181 0 7 (dk_at dksJ12_init_2_0 6 rfl rfl)
theorem dJ12_init_2_9 : decode cJ12_init_2 9 = .ok (.aload_n 0, 1) := dk_42 (dk_at dksJ12_init_2_0 9 rfl rfl)
theorem dJ12_init_2_10 : decode cJ12_init_2 10 = .ok (.getstatic 13, 3) := dk_178 0 13 (dk_at dksJ12_init_2_0 10 rfl rfl)
theorem dJ12_init_2_13 : decode cJ12_init_2 13 = .ok (.putfield 17, 3) := dk_181 0 17 (dk_at dksJ12_init_2_0 13 rfl rfl)
theorem dJ12_init_2_16 : decode cJ12_init_2 16 = .ok (.aload_n 0, 1) := dk_42 (dk_at dksJ12_init_2_0 16 rfl rfl)
theorem dJ12_init_2_17 : decode cJ12_init_2 17 = .ok (.getstatic 20, 3) := dk_178 0 20 (dk_at dksJ12_init_2_0 17 rfl rfl)
theorem dJ12_init_2_20 : decode cJ12_init_2 20 = .ok (.putfield 24, 3) := dk_181 0 24 (dk_at dksJ12_init_2_0 20 rfl rfl)
theorem dJ12_init_2_23 : decode cJ12_init_2 23 = .ok (.aload_n 0, 1) := dk_42 (dk_at dksJ12_init_2_0 23 rfl rfl)
theorem dJ12_init_2_24 : decode cJ12_init_2 24 = .ok (.invokevirtual 27, 3) := dk_182 0 27 (dk_at dksJ12_init_2_1 0 rfl rfl)
theorem dJ12_init_2_27 : decode cJ12_init_2 27 = .ok (.pop, 1) := dk_87 (dk_at dksJ12_init_2_1 3 rfl rfl)
theorem dJ12_init_2_28 : decode cJ12_init_2 28 = .ok (.aload_n 0, 1) := dk_42 (dk_at dksJ12_init_2_1 4 rfl rfl)
theorem dJ12_init_2_29 : decode cJ12_init_2 29 = .ok (.aload_n 1, 1) := dk_43 (dk_at dksJ12_init_2_1 5 rfl rfl)
theorem dJ12_init_2_30 : decode cJ12_init_2 30 = .ok (.putfield 31, 3) := dk_181 0 31 (dk_at dksJ12_init_2_1 6 rfl rfl)
theorem dJ12_init_2_33 : decode cJ12_init_2 33 = .ok (.return_, 1) := dk_177 (dk_at dksJ12_init_2_1 9 rfl rfl)
abbrev cJ12_init_3 : ByteArray := prog_45_method_5_code
def yJ12_init_3 : MethodName := ⟨RJ12, "<init>", "(Ljava/lang/String;Ljava/lang/Throwable;ZZ)V"⟩
def dkwJ12_init_3_2 : List UInt8 := [44, 181, 0, 7, 29, 154, 0, 8, 42, 1, 181, 0, 24, 177]
abbrev dktJ12_init_3_2 : List UInt8 := dkwJ12_init_3_2 ++ []
def dkwJ12_init_3_1 : List UInt8 := [21, 4, 153, 0, 11, 42, 182, 0, 27, 87, 167, 0, 8, 42, 1, 181, 0, 17, 42, 43, 181, 0, 31, 42]
abbrev dktJ12_init_3_1 : List UInt8 := dkwJ12_init_3_1 ++ dktJ12_init_3_2
def dkwJ12_init_3_0 : List UInt8 := [42, 183, 0, 1, 42, 42, 181, 0, 7, 42, 178, 0, 13, 181, 0, 17, 42, 178, 0, 20, 181, 0, 24]
abbrev dktJ12_init_3_0 : List UInt8 := dkwJ12_init_3_0 ++ dktJ12_init_3_1
theorem dksJ12_init_3_0 : cJ12_init_3.data.toList.drop 0 = dktJ12_init_3_0 := by decide +kernel
theorem dksJ12_init_3_1 : cJ12_init_3.data.toList.drop 23 = dktJ12_init_3_1 := dk_seg dksJ12_init_3_0 23 rfl rfl
theorem dksJ12_init_3_2 : cJ12_init_3.data.toList.drop 47 = dktJ12_init_3_2 := dk_seg dksJ12_init_3_1 24 rfl rfl
theorem dJ12_init_3_0 : decode cJ12_init_3 0 = .ok (.aload_n 0, 1) := dk_42 (dk_at dksJ12_init_3_0 0 rfl rfl)
theorem dJ12_init_3_1 : decode cJ12_init_3 1 = .ok (.invokespecial 1, 3) := dk_183 0 1 (dk_at dksJ12_init_3_0 1 rfl rfl)
theorem dJ12_init_3_4 : decode cJ12_init_3 4 = .ok (.aload_n 0, 1) := dk_42 (dk_at dksJ12_init_3_0 4 rfl rfl)
theorem dJ12_init_3_5 : decode cJ12_init_3 5 = .ok (.aload_n 0, 1) := dk_42 (dk_at dksJ12_init_3_0 5 rfl rfl)
theorem dJ12_init_3_6 : decode cJ12_init_3 6 = .ok (.putfield 7, 3) := dk_181 0 7 (dk_at dksJ12_init_3_0 6 rfl rfl)
theorem dJ12_init_3_9 : decode cJ12_init_3 9 = .ok (.aload_n 0, 1) := dk_42 (dk_at dksJ12_init_3_0 9 rfl rfl)
theorem dJ12_init_3_10 : decode cJ12_init_3 10 = .ok (.getstatic 13, 3) := dk_178 0 13 (dk_at dksJ12_init_3_0 10 rfl rfl)
theorem dJ12_init_3_13 : decode cJ12_init_3 13 = .ok (.putfield 17, 3) := dk_181 0 17 (dk_at dksJ12_init_3_0 13 rfl rfl)
theorem dJ12_init_3_16 : decode cJ12_init_3 16 = .ok (.aload_n 0, 1) := dk_42 (dk_at dksJ12_init_3_0 16 rfl rfl)
theorem dJ12_init_3_17 : decode cJ12_init_3 17 = .ok (.getstatic 20, 3) := dk_178 0 20 (dk_at dksJ12_init_3_0 17 rfl rfl)
theorem dJ12_init_3_20 : decode cJ12_init_3 20 = .ok (.putfield 24, 3) := dk_181 0 24 (dk_at dksJ12_init_3_0 20 rfl rfl)
theorem dJ12_init_3_23 : decode cJ12_init_3 23 = .ok (.iload 4, 2) := dk_21 4 (dk_at dksJ12_init_3_1 0 rfl rfl)
theorem dJ12_init_3_25 : decode cJ12_init_3 25 = .ok (.ifCond .eq 11, 3) := dk_153 0 11 (dk_at dksJ12_init_3_1 2 rfl rfl)
theorem dJ12_init_3_28 : decode cJ12_init_3 28 = .ok (.aload_n 0, 1) := dk_42 (dk_at dksJ12_init_3_1 5 rfl rfl)
theorem dJ12_init_3_29 : decode cJ12_init_3 29 = .ok (.invokevirtual 27, 3) := dk_182 0 27 (dk_at dksJ12_init_3_1 6 rfl rfl)
theorem dJ12_init_3_32 : decode cJ12_init_3 32 = .ok (.pop, 1) := dk_87 (dk_at dksJ12_init_3_1 9 rfl rfl)
theorem dJ12_init_3_33 : decode cJ12_init_3 33 = .ok (.goto 8, 3) := dk_167 0 8 (dk_at dksJ12_init_3_1 10 rfl rfl)
theorem dJ12_init_3_36 : decode cJ12_init_3 36 = .ok (.aload_n 0, 1) := dk_42 (dk_at dksJ12_init_3_1 13 rfl rfl)
theorem dJ12_init_3_37 : decode cJ12_init_3 37 = .ok (.aconst_null, 1) := dk_1 (dk_at dksJ12_init_3_1 14 rfl rfl)
theorem dJ12_init_3_38 : decode cJ12_init_3 38 = .ok (.putfield 17, 3) := dk_181 0 17 (dk_at dksJ12_init_3_1 15 rfl rfl)
theorem dJ12_init_3_41 : decode cJ12_init_3 41 = .ok (.aload_n 0, 1) := dk_42 (dk_at dksJ12_init_3_1 18 rfl rfl)
theorem dJ12_init_3_42 : decode cJ12_init_3 42 = .ok (.aload_n 1, 1) := dk_43 (dk_at dksJ12_init_3_1 19 rfl rfl)
theorem dJ12_init_3_43 : decode cJ12_init_3 43 = .ok (.putfield 31, 3) := dk_181 0 31 (dk_at dksJ12_init_3_1 20 rfl rfl)
theorem dJ12_init_3_46 : decode cJ12_init_3 46 = .ok (.aload_n 0, 1) := dk_42 (dk_at dksJ12_init_3_1 23 rfl rfl)
theorem dJ12_init_3_47 : decode cJ12_init_3 47 = .ok (.aload_n 2, 1) := dk_44 (dk_at dksJ12_init_3_2 0 rfl rfl)
theorem dJ12_init_3_48 : decode cJ12_init_3 48 = .ok (.putfield 7, 3) := dk_181 0 7 (dk_at dksJ12_init_3_2 1 rfl rfl)
theorem dJ12_init_3_51 : decode cJ12_init_3 51 = .ok (.iload_n 3, 1) := dk_29 (dk_at dksJ12_init_3_2 4 rfl rfl)
theorem dJ12_init_3_52 : decode cJ12_init_3 52 = .ok (.ifCond .ne 8, 3) := dk_154 0 8 (dk_at dksJ12_init_3_2 5 rfl rfl)
theorem dJ12_init_3_55 : decode cJ12_init_3 55 = .ok (.aload_n 0, 1) := dk_42 (dk_at dksJ12_init_3_2 8 rfl rfl)
theorem dJ12_init_3_56 : decode cJ12_init_3 56 = .ok (.aconst_null, 1) := dk_1 (dk_at dksJ12_init_3_2 9 rfl rfl)
theorem dJ12_init_3_57 : decode cJ12_init_3 57 = .ok (.putfield 24, 3) := dk_181 0 24 (dk_at dksJ12_init_3_2 10 rfl rfl)
theorem dJ12_init_3_60 : decode cJ12_init_3 60 = .ok (.return_, 1) := dk_177 (dk_at dksJ12_init_3_2 13 rfl rfl)
