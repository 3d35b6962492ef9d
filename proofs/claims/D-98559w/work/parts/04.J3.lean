/-! decode rows of J3 -/
set_option maxRecDepth 100000
abbrev cJ3_init : ByteArray := prog_51_method_2_code
def yJ3_init : MethodName := ⟨RJ3, "<init>", "()V"⟩
def dkwJ3_init_0 : List UInt8 := [42, 183, 0, 1, 42, 178, 0, 39, 181, 0, 9, 177]
abbrev dktJ3_init_0 : List UInt8 := dkwJ3_init_0 ++ []
theorem dksJ3_init_0 : cJ3_init.data.toList.drop 0 = dktJ3_init_0 := by decide +kernel
theorem dJ3_init_0 : decode cJ3_init 0 = .ok (.aload_n 0, 1) := dk_42 (dk_at dksJ3_init_0 0 rfl rfl)
theorem dJ3_init_1 : decode cJ3_init 1 = .ok (.invokespecial 1, 3) := dk_183 0 1 (dk_at dksJ3_init_0 1 rfl rfl)
theorem dJ3_init_4 : decode cJ3_init 4 = .ok (.aload_n 0, 1) := dk_42 (dk_at dksJ3_init_0 4 rfl rfl)
theorem dJ3_init_5 : decode cJ3_init 5 = .ok (.getstatic 39, 3) := dk_178 0 39 (dk_at dksJ3_init_0 5 rfl rfl)
theorem dJ3_init_8 : decode cJ3_init 8 = .ok (.putfield 9, 3) := dk_181 0 9 (dk_at dksJ3_init_0 8 rfl rfl)
theorem dJ3_init_11 : decode cJ3_init 11 = .ok (.return_, 1) := dk_177 (dk_at dksJ3_init_0 11 rfl rfl)
abbrev cJ3_isEmpty : ByteArray := prog_51_method_9_code
def yJ3_isEmpty : MethodName := ⟨RJ3, "isEmpty", "()Z"⟩
def dkwJ3_isEmpty_0 : List UInt8 := [42, 180, 0, 48, 154, 0, 7, 4, 167, 0, 4, 3, 172]
abbrev dktJ3_isEmpty_0 : List UInt8 := dkwJ3_isEmpty_0 ++ []
theorem dksJ3_isEmpty_0 : cJ3_isEmpty.data.toList.drop 0 = dktJ3_isEmpty_0 := by decide +kernel
theorem dJ3_isEmpty_0 : decode cJ3_isEmpty 0 = .ok (.aload_n 0, 1) := dk_42 (dk_at dksJ3_isEmpty_0 0 rfl rfl)
theorem dJ3_isEmpty_1 : decode cJ3_isEmpty 1 = .ok (.getfield 48, 3) := dk_180 0 48 (dk_at dksJ3_isEmpty_0 1 rfl rfl)
theorem dJ3_isEmpty_4 : decode cJ3_isEmpty 4 = .ok (.ifCond .ne 7, 3) := dk_154 0 7 (dk_at dksJ3_isEmpty_0 4 rfl rfl)
theorem dJ3_isEmpty_7 : decode cJ3_isEmpty 7 = .ok (.iconst 1, 1) := dk_4 (dk_at dksJ3_isEmpty_0 7 rfl rfl)
theorem dJ3_isEmpty_8 : decode cJ3_isEmpty 8 = .ok (.goto 4, 3) := dk_167 0 4 (dk_at dksJ3_isEmpty_0 8 rfl rfl)
theorem dJ3_isEmpty_11 : decode cJ3_isEmpty 11 = .ok (.iconst 0, 1) := dk_3 (dk_at dksJ3_isEmpty_0 11 rfl rfl)
theorem dJ3_isEmpty_12 : decode cJ3_isEmpty 12 = .ok (.ireturn, 1) := dk_172 (dk_at dksJ3_isEmpty_0 12 rfl rfl)
abbrev cJ3_size : ByteArray := prog_51_method_8_code
def yJ3_size : MethodName := ⟨RJ3, "size", "()I"⟩
theorem dJ3_size_0 : decode cJ3_size 0 = .ok (.aload_n 0, 1) := by decide +kernel
theorem dJ3_size_1 : decode cJ3_size 1 = .ok (.getfield 48, 3) := by decide +kernel
theorem dJ3_size_4 : decode cJ3_size 4 = .ok (.ireturn, 1) := by decide +kernel
abbrev cJ3_remove : ByteArray := prog_51_method_29_code
def yJ3_remove : MethodName := ⟨RJ3, "remove", "(I)Ljava/lang/Object;"⟩
def dkwJ3_remove_1 : List UInt8 := [45, 176]
abbrev dktJ3_remove_1 : List UInt8 := dkwJ3_remove_1 ++ []
def dkwJ3_remove_0 : List UInt8 := [27, 42, 180, 0, 48, 184, 0, 118, 87, 42, 180, 0, 9, 77, 44, 27, 50, 78, 42, 44, 27, 182, 0, 144]
abbrev dktJ3_remove_0 : List UInt8 := dkwJ3_remove_0 ++ dktJ3_remove_1
theorem dksJ3_remove_0 : cJ3_remove.data.toList.drop 0 = dktJ3_remove_0 := by decide +kernel
theorem dksJ3_remove_1 : cJ3_remove.data.toList.drop 24 = dktJ3_remove_1 := dk_seg dksJ3_remove_0 24 rfl rfl
theorem dJ3_remove_0 : decode cJ3_remove 0 = .ok (.iload_n 1, 1) := dk_27 (dk_at dksJ3_remove_0 0 rfl rfl)
theorem dJ3_remove_1 : decode cJ3_remove 1 = .ok (.aload_n 0, 1) := dk_42 (dk_at dksJ3_remove_0 1 rfl rfl)
theorem dJ3_remove_2 : decode cJ3_remove 2 = .ok (.getfield 48, 3) := dk_180 0 48 (dk_at dksJ3_remove_0 2 rfl rfl)
theorem dJ3_remove_5 : decode cJ3_remove 5 = .ok (.invokestatic 118, 3) := dk_184 0 118 (dk_at dksJ3_remove_0 5 rfl rfl)
theorem dJ3_remove_8 : decode cJ3_remove 8 = .ok (.pop, 1) := dk_87 (dk_at dksJ3_remove_0 8 rfl rfl)
theorem dJ3_remove_9 : decode cJ3_remove 9 = .ok (.aload_n 0, 1) := dk_42 (dk_at dksJ3_remove_0 9 rfl rfl)
theorem dJ3_remove_10 : decode cJ3_remove 10 = .ok (.getfield 9, 3) := dk_180 0 9 (dk_at dksJ3_remove_0 10 rfl rfl)
theorem dJ3_remove_13 : decode cJ3_remove 13 = .ok (.astore_n 2, 1) := dk_77 (dk_at dksJ3_remove_0 13 rfl rfl)
theorem dJ3_remove_14 : decode cJ3_remove 14 = .ok (.aload_n 2, 1) := dk_44 (dk_at dksJ3_remove_0 14 rfl rfl)
theorem dJ3_remove_15 : decode cJ3_remove 15 = .ok (.iload_n 1, 1) := dk_27 (dk_at dksJ3_remove_0 15 rfl rfl)
theorem dJ3_remove_16 : decode cJ3_remove 16 = .ok (.aaload, 1) := dk_50 (dk_at dksJ3_remove_0 16 rfl rfl)
theorem dJ3_remove_17 : decode cJ3_remove 17 = .ok (.astore_n 3, 1) := dk_78 (dk_at dksJ3_remove_0 17 rfl rfl)
theorem dJ3_remove_18 : decode cJ3_remove 18 = .ok (.aload_n 0, 1) := dk_42 (dk_at dksJ3_remove_0 18 rfl rfl)
theorem dJ3_remove_19 : decode cJ3_remove 19 = .ok (.aload_n 2, 1) := dk_44 (dk_at dksJ3_remove_0 19 rfl rfl)
theorem dJ3_remove_20 : decode cJ3_remove 20 = .ok (.iload_n 1, 1) := dk_27 (dk_at dksJ3_remove_0 20 rfl rfl)
theorem dJ3_remove_21 : decode cJ3_remove 21 = .ok (.invokevirtual 144, 3) := dk_182 0 144 (dk_at dksJ3_remove_0 21 rfl rfl)
theorem dJ3_remove_24 : decode cJ3_remove 24 = .ok (.aload_n 3, 1) := dk_45 (dk_at dksJ3_remove_1 0 rfl rfl)
theorem dJ3_remove_25 : decode cJ3_remove 25 = .ok (.areturn, 1) := dk_176 (dk_at dksJ3_remove_1 1 rfl rfl)
abbrev cJ3_fastRemove : ByteArray := prog_51_method_39_code
def yJ3_fastRemove : MethodName := ⟨RJ3, "fastRemove", "([Ljava/lang/Object;I)V"⟩
def dkwJ3_fastRemove_1 : List UInt8 := [4, 96, 43, 28, 29, 28, 100, 184, 0, 112, 43, 42, 29, 90, 181, 0, 48, 1, 83, 177]
abbrev dktJ3_fastRemove_1 : List UInt8 := dkwJ3_fastRemove_1 ++ []
def dkwJ3_fastRemove_0 : List UInt8 := [42, 89, 180, 0, 63, 4, 96, 181, 0, 63, 42, 180, 0, 48, 4, 100, 89, 62, 28, 164, 0, 15, 43, 28]
abbrev dktJ3_fastRemove_0 : List UInt8 := dkwJ3_fastRemove_0 ++ dktJ3_fastRemove_1
theorem dksJ3_fastRemove_0 : cJ3_fastRemove.data.toList.drop 0 = dktJ3_fastRemove_0 := by decide +kernel
theorem dksJ3_fastRemove_1 : cJ3_fastRemove.data.toList.drop 24 = dktJ3_fastRemove_1 := dk_seg dksJ3_fastRemove_0 24 rfl rfl
theorem dJ3_fastRemove_0 : decode cJ3_fastRemove 0 = .ok (.aload_n 0, 1) := dk_42 (dk_at dksJ3_fastRemove_0 0 rfl rfl)
theorem dJ3_fastRemove_1 : decode cJ3_fastRemove 1 = .ok (.dup, 1) := dk_89 (dk_at dksJ3_fastRemove_0 1 rfl rfl)
theorem dJ3_fastRemove_2 : decode cJ3_fastRemove 2 = .ok (.getfield 63, 3) := dk_180 0 63 (dk_at dksJ3_fastRemove_0 2 rfl rfl)
theorem dJ3_fastRemove_5 : decode cJ3_fastRemove 5 = .ok (.iconst 1, 1) := dk_4 (dk_at dksJ3_fastRemove_0 5 rfl rfl)
theorem dJ3_fastRemove_6 : decode cJ3_fastRemove 6 = .ok (.iadd, 1) := dk_96 (dk_at dksJ3_fastRemove_0 6 rfl rfl)
theorem dJ3_fastRemove_7 : decode cJ3_fastRemove 7 = .ok (.putfield 63, 3) := dk_181 0 63 (dk_at dksJ3_fastRemove_0 7 rfl rfl)
theorem dJ3_fastRemove_10 : decode cJ3_fastRemove 10 = .ok (.aload_n 0, 1) := dk_42 (dk_at dksJ3_fastRemove_0 10 rfl rfl)
theorem dJ3_fastRemove_11 : decode cJ3_fastRemove 11 = .ok (.getfield 48, 3) := dk_180 0 48 (dk_at dksJ3_fastRemove_0 11 rfl rfl)
theorem dJ3_fastRemove_14 : decode cJ3_fastRemove 14 = .ok (.iconst 1, 1) := dk_4 (dk_at dksJ3_fastRemove_0 14 rfl rfl)
theorem dJ3_fastRemove_15 : decode cJ3_fastRemove 15 = .ok (.isub, 1) := dk_100 (dk_at dksJ3_fastRemove_0 15 rfl rfl)
theorem dJ3_fastRemove_16 : decode cJ3_fastRemove 16 = .ok (.dup, 1) := dk_89 (dk_at dksJ3_fastRemove_0 16 rfl rfl)
theorem dJ3_fastRemove_17 : decode cJ3_fastRemove 17 = .ok (.istore_n 3, 1) := dk_62 (dk_at dksJ3_fastRemove_0 17 rfl rfl)
theorem dJ3_fastRemove_18 : decode cJ3_fastRemove 18 = .ok (.iload_n 2, 1) := dk_28 (dk_at dksJ3_fastRemove_0 18 rfl rfl)
theorem dJ3_fastRemove_19 : decode cJ3_fastRemove 19 = .ok (.if_icmp .le 15, 3) := dk_164 0 15 (dk_at dksJ3_fastRemove_0 19 rfl rfl)
theorem dJ3_fastRemove_22 : decode cJ3_fastRemove 22 = .ok (.aload_n 1, 1) := dk_43 (dk_at dksJ3_fastRemove_0 22 rfl rfl)
theorem dJ3_fastRemove_23 : decode cJ3_fastRemove 23 = .ok (.iload_n 2, 1) := dk_28 (dk_at dksJ3_fastRemove_0 23 rfl rfl)
theorem dJ3_fastRemove_24 : decode cJ3_fastRemove 24 = .ok (.iconst 1, 1) := dk_4 (dk_at dksJ3_fastRemove_1 0 rfl rfl)
theorem dJ3_fastRemove_25 : decode cJ3_fastRemove 25 = .ok (.iadd, 1) := dk_96 (dk_at dksJ3_fastRemove_1 1 rfl rfl)
theorem dJ3_fastRemove_26 : decode cJ3_fastRemove 26 = .ok (.aload_n 1, 1) := dk_43 (dk_at dksJ3_fastRemove_1 2 rfl rfl)
theorem dJ3_fastRemove_27 : decode cJ3_fastRemove 27 = .ok (.iload_n 2, 1) := dk_28 (dk_at dksJ3_fastRemove_1 3 rfl rfl)
theorem dJ3_fastRemove_28 : decode cJ3_fastRemove 28 = .ok (.iload_n 3, 1) := dk_29 (dk_at dksJ3_fastRemove_1 4 rfl rfl)
theorem dJ3_fastRemove_29 : decode cJ3_fastRemove 29 = .ok (.iload_n 2, 1) := dk_28 (dk_at dksJ3_fastRemove_1 5 rfl rfl)
theorem dJ3_fastRemove_30 : decode cJ3_fastRemove 30 = .ok (.isub, 1) := dk_100 (dk_at dksJ3_fastRemove_1 6 rfl rfl)
theorem dJ3_fastRemove_31 : decode cJ3_fastRemove 31 = .ok (.invokestatic 112, 3) := dk_184 0 112 (dk_at dksJ3_fastRemove_1 7 rfl rfl)
theorem dJ3_fastRemove_34 : decode cJ3_fastRemove 34 = .ok (.aload_n 1, 1) := dk_43 (dk_at dksJ3_fastRemove_1 10 rfl rfl)
theorem dJ3_fastRemove_35 : decode cJ3_fastRemove 35 = .ok (.aload_n 0, 1) := dk_42 (dk_at dksJ3_fastRemove_1 11 rfl rfl)
theorem dJ3_fastRemove_36 : decode cJ3_fastRemove 36 = .ok (.iload_n 3, 1) := dk_29 (dk_at dksJ3_fastRemove_1 12 rfl rfl)
theorem dJ3_fastRemove_37 : decode cJ3_fastRemove 37 = .ok (.dup_x1, 1) := dk_90 (dk_at dksJ3_fastRemove_1 13 rfl rfl)
theorem dJ3_fastRemove_38 : decode cJ3_fastRemove 38 = .ok (.putfield 48, 3) := dk_181 0 48 (dk_at dksJ3_fastRemove_1 14 rfl rfl)
theorem dJ3_fastRemove_41 : decode cJ3_fastRemove 41 = .ok (.aconst_null, 1) := dk_1 (dk_at dksJ3_fastRemove_1 17 rfl rfl)
theorem dJ3_fastRemove_42 : decode cJ3_fastRemove 42 = .ok (.aastore, 1) := dk_83 (dk_at dksJ3_fastRemove_1 18 rfl rfl)
theorem dJ3_fastRemove_43 : decode cJ3_fastRemove 43 = .ok (.return_, 1) := dk_177 (dk_at dksJ3_fastRemove_1 19 rfl rfl)
abbrev cJ3_clear : ByteArray := prog_51_method_40_code
def yJ3_clear : MethodName := ⟨RJ3, "clear", "()V"⟩
def dkwJ3_clear_1 : List UInt8 := [181, 0, 48, 62, 29, 28, 162, 0, 13, 43, 29, 1, 83, 132, 3, 1, 167, 255, 244, 177]
abbrev dktJ3_clear_1 : List UInt8 := dkwJ3_clear_1 ++ []
def dkwJ3_clear_0 : List UInt8 := [42, 89, 180, 0, 63, 4, 96, 181, 0, 63, 42, 180, 0, 9, 76, 42, 180, 0, 48, 61, 42, 3, 90]
abbrev dktJ3_clear_0 : List UInt8 := dkwJ3_clear_0 ++ dktJ3_clear_1
theorem dksJ3_clear_0 : cJ3_clear.data.toList.drop 0 = dktJ3_clear_0 := by decide +kernel
theorem dksJ3_clear_1 : cJ3_clear.data.toList.drop 23 = dktJ3_clear_1 := dk_seg dksJ3_clear_0 23 rfl rfl
theorem dJ3_clear_0 : decode cJ3_clear 0 = .ok (.aload_n 0, 1) := dk_42 (dk_at dksJ3_clear_0 0 rfl rfl)
theorem dJ3_clear_1 : decode cJ3_clear 1 = .ok (.dup, 1) := dk_89 (dk_at dksJ3_clear_0 1 rfl rfl)
theorem dJ3_clear_2 : decode cJ3_clear 2 = .ok (.getfield 63, 3) := dk_180 0 63 (dk_at dksJ3_clear_0 2 rfl rfl)
theorem dJ3_clear_5 : decode cJ3_clear 5 = .ok (.iconst 1, 1) := dk_4 (dk_at dksJ3_clear_0 5 rfl rfl)
theorem dJ3_clear_6 : decode cJ3_clear 6 = .ok (.iadd, 1) := dk_96 (dk_at dksJ3_clear_0 6 rfl rfl)
theorem dJ3_clear_7 : decode cJ3_clear 7 = .ok (.putfield 63, 3) := dk_181 0 63 (dk_at dksJ3_clear_0 7 rfl rfl)
theorem dJ3_clear_10 : decode cJ3_clear 10 = .ok (.aload_n 0, 1) := dk_42 (dk_at dksJ3_clear_0 10 rfl rfl)
theorem dJ3_clear_11 : decode cJ3_clear 11 = .ok (.getfield 9, 3) := dk_180 0 9 (dk_at dksJ3_clear_0 11 rfl rfl)
theorem dJ3_clear_14 : decode cJ3_clear 14 = .ok (.astore_n 1, 1) := dk_76 (dk_at dksJ3_clear_0 14 rfl rfl)
theorem dJ3_clear_15 : decode cJ3_clear 15 = .ok (.aload_n 0, 1) := dk_42 (dk_at dksJ3_clear_0 15 rfl rfl)
theorem dJ3_clear_16 : decode cJ3_clear 16 = .ok (.getfield 48, 3) := dk_180 0 48 (dk_at dksJ3_clear_0 16 rfl rfl)
theorem dJ3_clear_19 : decode cJ3_clear 19 = .ok (.istore_n 2, 1) := dk_61 (dk_at dksJ3_clear_0 19 rfl rfl)
theorem dJ3_clear_20 : decode cJ3_clear 20 = .ok (.aload_n 0, 1) := dk_42 (dk_at dksJ3_clear_0 20 rfl rfl)
theorem dJ3_clear_21 : decode cJ3_clear 21 = .ok (.iconst 0, 1) := dk_3 (dk_at dksJ3_clear_0 21 rfl rfl)
theorem dJ3_clear_22 : decode cJ3_clear 22 = .ok (.dup_x1, 1) := dk_90 (dk_at dksJ3_clear_0 22 rfl rfl)
theorem dJ3_clear_23 : decode cJ3_clear 23 = .ok (.putfield 48, 3) := dk_181 0 48 (dk_at dksJ3_clear_1 0 rfl rfl)
theorem dJ3_clear_26 : decode cJ3_clear 26 = .ok (.istore_n 3, 1) := dk_62 (dk_at dksJ3_clear_1 3 rfl rfl)
theorem dJ3_clear_27 : decode cJ3_clear 27 = .ok (.iload_n 3, 1) := dk_29 (dk_at dksJ3_clear_1 4 rfl rfl)
theorem dJ3_clear_28 : decode cJ3_clear 28 = .ok (.iload_n 2, 1) := dk_28 (dk_at dksJ3_clear_1 5 rfl rfl)
theorem dJ3_clear_29 : decode cJ3_clear 29 = .ok (.if_icmp .ge 13, 3) := dk_162 0 13 (dk_at dksJ3_clear_1 6 rfl rfl)
theorem dJ3_clear_32 : decode cJ3_clear 32 = .ok (.aload_n 1, 1) := dk_43 (dk_at dksJ3_clear_1 9 rfl rfl)
theorem dJ3_clear_33 : decode cJ3_clear 33 = .ok (.iload_n 3, 1) := dk_29 (dk_at dksJ3_clear_1 10 rfl rfl)
theorem dJ3_clear_34 : decode cJ3_clear 34 = .ok (.aconst_null, 1) := dk_1 (dk_at dksJ3_clear_1 11 rfl rfl)
theorem dJ3_clear_35 : decode cJ3_clear 35 = .ok (.aastore, 1) := dk_83 (dk_at dksJ3_clear_1 12 rfl rfl)
theorem dJ3_clear_36 : decode cJ3_clear 36 = .ok (.iinc 3 1, 3) := dk_132 3 1 (dk_at dksJ3_clear_1 13 rfl rfl)
theorem dJ3_clear_39 : decode cJ3_clear 39 = .ok (.goto (-12), 3) := dk_167 255 244 (dk_at dksJ3_clear_1 16 rfl rfl)
theorem dJ3_clear_42 : decode cJ3_clear 42 = .ok (.return_, 1) := dk_177 (dk_at dksJ3_clear_1 19 rfl rfl)
abbrev cJ3_add : ByteArray := prog_51_method_25_code
def yJ3_add : MethodName := ⟨RJ3, "add", "(Ljava/lang/Object;)Z"⟩
def dkwJ3_add_1 : List UInt8 := [172]
abbrev dktJ3_add_1 : List UInt8 := dkwJ3_add_1 ++ []
def dkwJ3_add_0 : List UInt8 := [42, 89, 180, 0, 63, 4, 96, 181, 0, 63, 42, 43, 42, 180, 0, 9, 42, 180, 0, 48, 182, 0, 131, 4]
abbrev dktJ3_add_0 : List UInt8 := dkwJ3_add_0 ++ dktJ3_add_1
theorem dksJ3_add_0 : cJ3_add.data.toList.drop 0 = dktJ3_add_0 := by decide +kernel
theorem dksJ3_add_1 : cJ3_add.data.toList.drop 24 = dktJ3_add_1 := dk_seg dksJ3_add_0 24 rfl rfl
theorem dJ3_add_0 : decode cJ3_add 0 = .ok (.aload_n 0, 1) := dk_42 (dk_at dksJ3_add_0 0 rfl rfl)
theorem dJ3_add_1 : decode cJ3_add 1 = .ok (.dup, 1) := dk_89 (dk_at dksJ3_add_0 1 rfl rfl)
theorem dJ3_add_2 : decode cJ3_add 2 = .ok (.getfield 63, 3) := dk_180 0 63 (dk_at dksJ3_add_0 2 rfl rfl)
theorem dJ3_add_5 : decode cJ3_add 5 = .ok (.iconst 1, 1) := dk_4 (dk_at dksJ3_add_0 5 rfl rfl)
theorem dJ3_add_6 : decode cJ3_add 6 = .ok (.iadd, 1) := dk_96 (dk_at dksJ3_add_0 6 rfl rfl)
theorem dJ3_add_7 : decode cJ3_add 7 = .ok (.putfield 63, 3) := dk_181 0 63 (dk_at dksJ3_add_0 7 rfl rfl)
theorem dJ3_add_10 : decode cJ3_add 10 = .ok (.aload_n 0, 1) := dk_42 (dk_at dksJ3_add_0 10 rfl rfl)
theorem dJ3_add_11 : decode cJ3_add 11 = .ok (.aload_n 1, 1) := dk_43 (dk_at dksJ3_add_0 11 rfl rfl)
theorem dJ3_add_12 : decode cJ3_add 12 = .ok (.aload_n 0, 1) := dk_42 (dk_at dksJ3_add_0 12 rfl rfl)
theorem dJ3_add_13 : decode cJ3_add 13 = .ok (.getfield 9, 3) := dk_180 0 9 (dk_at dksJ3_add_0 13 rfl rfl)
theorem dJ3_add_16 : decode cJ3_add 16 = .ok (.aload_n 0, 1) := dk_42 (dk_at dksJ3_add_0 16 rfl rfl)
theorem dJ3_add_17 : decode cJ3_add 17 = .ok (.getfield 48, 3) := dk_180 0 48 (dk_at dksJ3_add_0 17 rfl rfl)
theorem dJ3_add_20 : decode cJ3_add 20 = .ok (.invokevirtual 131, 3) := dk_182 0 131 (dk_at dksJ3_add_0 20 rfl rfl)
theorem dJ3_add_23 : decode cJ3_add 23 = .ok (.iconst 1, 1) := dk_4 (dk_at dksJ3_add_0 23 rfl rfl)
theorem dJ3_add_24 : decode cJ3_add 24 = .ok (.ireturn, 1) := dk_172 (dk_at dksJ3_add_1 0 rfl rfl)
abbrev cJ3_add_2 : ByteArray := prog_51_method_24_code
def yJ3_add_2 : MethodName := ⟨RJ3, "add", "(Ljava/lang/Object;[Ljava/lang/Object;I)V"⟩
def dkwJ3_add_2_0 : List UInt8 := [29, 44, 190, 160, 0, 8, 42, 182, 0, 129, 77, 44, 29, 43, 83, 42, 29, 4, 96, 181, 0, 48, 177]
abbrev dktJ3_add_2_0 : List UInt8 := dkwJ3_add_2_0 ++ []
theorem dksJ3_add_2_0 : cJ3_add_2.data.toList.drop 0 = dktJ3_add_2_0 := by decide +kernel
theorem dJ3_add_2_0 : decode cJ3_add_2 0 = .ok (.iload_n 3, 1) := dk_29 (dk_at dksJ3_add_2_0 0 rfl rfl)
theorem dJ3_add_2_1 : decode cJ3_add_2 1 = .ok (.aload_n 2, 1) := dk_44 (dk_at dksJ3_add_2_0 1 rfl rfl)
theorem dJ3_add_2_2 : decode cJ3_add_2 2 = .ok (.arraylength, 1) := dk_190 (dk_at dksJ3_add_2_0 2 rfl rfl)
theorem dJ3_add_2_3 : decode cJ3_add_2 3 = .ok (.if_icmp .ne 8, 3) := dk_160 0 8 (dk_at dksJ3_add_2_0 3 rfl rfl)
theorem dJ3_add_2_6 : decode cJ3_add_2 6 = .ok (.aload_n 0, 1) := dk_42 (dk_at dksJ3_add_2_0 6 rfl rfl)
theorem dJ3_add_2_7 : decode cJ3_add_2 7 = .ok (.invokevirtual 129, 3) := dk_182 0 129 (dk_at dksJ3_add_2_0 7 rfl rfl)
theorem dJ3_add_2_10 : decode cJ3_add_2 10 = .ok (.astore_n 2, 1) := dk_77 (dk_at dksJ3_add_2_0 10 rfl rfl)
theorem dJ3_add_2_11 : decode cJ3_add_2 11 = .ok (.aload_n 2, 1) := dk_44 (dk_at dksJ3_add_2_0 11 rfl rfl)
theorem dJ3_add_2_12 : decode cJ3_add_2 12 = .ok (.iload_n 3, 1) := dk_29 (dk_at dksJ3_add_2_0 12 rfl rfl)
theorem dJ3_add_2_13 : decode cJ3_add_2 13 = .ok (.aload_n 1, 1) := dk_43 (dk_at dksJ3_add_2_0 13 rfl rfl)
theorem dJ3_add_2_14 : decode cJ3_add_2 14 = .ok (.aastore, 1) := dk_83 (dk_at dksJ3_add_2_0 14 rfl rfl)
theorem dJ3_add_2_15 : decode cJ3_add_2 15 = .ok (.aload_n 0, 1) := dk_42 (dk_at dksJ3_add_2_0 15 rfl rfl)
theorem dJ3_add_2_16 : decode cJ3_add_2 16 = .ok (.iload_n 3, 1) := dk_29 (dk_at dksJ3_add_2_0 16 rfl rfl)
theorem dJ3_add_2_17 : decode cJ3_add_2 17 = .ok (.iconst 1, 1) := dk_4 (dk_at dksJ3_add_2_0 17 rfl rfl)
theorem dJ3_add_2_18 : decode cJ3_add_2 18 = .ok (.iadd, 1) := dk_96 (dk_at dksJ3_add_2_0 18 rfl rfl)
theorem dJ3_add_2_19 : decode cJ3_add_2 19 = .ok (.putfield 48, 3) := dk_181 0 48 (dk_at dksJ3_add_2_0 19 rfl rfl)
theorem dJ3_add_2_22 : decode cJ3_add_2 22 = .ok (.return_, 1) := dk_177 (dk_at dksJ3_add_2_0 22 rfl rfl)
abbrev cJ3_grow : ByteArray := prog_51_method_7_code
def yJ3_grow : MethodName := ⟨RJ3, "grow", "()[Ljava/lang/Object;"⟩
def dkwJ3_grow_0 : List UInt8 := [42, 42, 180, 0, 48, 4, 96, 182, 0, 69, 176]
abbrev dktJ3_grow_0 : List UInt8 := dkwJ3_grow_0 ++ []
theorem dksJ3_grow_0 : cJ3_grow.data.toList.drop 0 = dktJ3_grow_0 := by decide +kernel
theorem dJ3_grow_0 : decode cJ3_grow 0 = .ok (.aload_n 0, 1) := dk_42 (dk_at dksJ3_grow_0 0 rfl rfl)
theorem dJ3_grow_1 : decode cJ3_grow 1 = .ok (.aload_n 0, 1) := dk_42 (dk_at dksJ3_grow_0 1 rfl rfl)
theorem dJ3_grow_2 : decode cJ3_grow 2 = .ok (.getfield 48, 3) := dk_180 0 48 (dk_at dksJ3_grow_0 2 rfl rfl)
theorem dJ3_grow_5 : decode cJ3_grow 5 = .ok (.iconst 1, 1) := dk_4 (dk_at dksJ3_grow_0 5 rfl rfl)
theorem dJ3_grow_6 : decode cJ3_grow 6 = .ok (.iadd, 1) := dk_96 (dk_at dksJ3_grow_0 6 rfl rfl)
theorem dJ3_grow_7 : decode cJ3_grow 7 = .ok (.invokevirtual 69, 3) := dk_182 0 69 (dk_at dksJ3_grow_0 7 rfl rfl)
theorem dJ3_grow_10 : decode cJ3_grow 10 = .ok (.areturn, 1) := dk_176 (dk_at dksJ3_grow_0 10 rfl rfl)
abbrev cJ3_grow_2 : ByteArray := prog_51_method_6_code
def yJ3_grow_2 : MethodName := ⟨RJ3, "grow", "(I)[Ljava/lang/Object;"⟩
def dkwJ3_grow_2_2 : List UInt8 := [27, 184, 0, 79, 189, 0, 7, 90, 181, 0, 9, 176]
abbrev dktJ3_grow_2_2 : List UInt8 := dkwJ3_grow_2_2 ++ []
def dkwJ3_grow_2_1 : List UInt8 := [28, 4, 122, 184, 0, 73, 62, 42, 42, 180, 0, 9, 29, 184, 0, 66, 90, 181, 0, 9, 176, 42, 16, 10]
abbrev dktJ3_grow_2_1 : List UInt8 := dkwJ3_grow_2_1 ++ dktJ3_grow_2_2
def dkwJ3_grow_2_0 : List UInt8 := [42, 180, 0, 9, 190, 61, 28, 157, 0, 13, 42, 180, 0, 9, 178, 0, 39, 165, 0, 28, 28, 27, 28, 100]
abbrev dktJ3_grow_2_0 : List UInt8 := dkwJ3_grow_2_0 ++ dktJ3_grow_2_1
theorem dksJ3_grow_2_0 : cJ3_grow_2.data.toList.drop 0 = dktJ3_grow_2_0 := by decide +kernel
theorem dksJ3_grow_2_1 : cJ3_grow_2.data.toList.drop 24 = dktJ3_grow_2_1 := dk_seg dksJ3_grow_2_0 24 rfl rfl
theorem dksJ3_grow_2_2 : cJ3_grow_2.data.toList.drop 48 = dktJ3_grow_2_2 := dk_seg dksJ3_grow_2_1 24 rfl rfl
theorem dJ3_grow_2_0 : decode cJ3_grow_2 0 = .ok (.aload_n 0, 1) := dk_42 (dk_at dksJ3_grow_2_0 0 rfl rfl)
theorem dJ3_grow_2_1 : decode cJ3_grow_2 1 = .ok (.getfield 9, 3) := dk_180 0 9 (dk_at dksJ3_grow_2_0 1 rfl rfl)
theorem dJ3_grow_2_4 : decode cJ3_grow_2 4 = .ok (.arraylength, 1) := dk_190 (dk_at dksJ3_grow_2_0 4 rfl rfl)
theorem dJ3_grow_2_5 : decode cJ3_grow_2 5 = .ok (.istore_n 2, 1) := dk_61 (dk_at dksJ3_grow_2_0 5 rfl rfl)
theorem dJ3_grow_2_6 : decode cJ3_grow_2 6 = .ok (.iload_n 2, 1) := dk_28 (dk_at dksJ3_grow_2_0 6 rfl rfl)
theorem dJ3_grow_2_7 : decode cJ3_grow_2 7 = .ok (.ifCond .gt 13, 3) := dk_157 0 13 (dk_at dksJ3_grow_2_0 7 rfl rfl)
theorem dJ3_grow_2_10 : decode cJ3_grow_2 10 = .ok (.aload_n 0, 1) := dk_42 (dk_at dksJ3_grow_2_0 10 rfl rfl)
theorem dJ3_grow_2_11 : decode cJ3_grow_2 11 = .ok (.getfield 9, 3) := dk_180 0 9 (dk_at dksJ3_grow_2_0 11 rfl rfl)
theorem dJ3_grow_2_14 : decode cJ3_grow_2 14 = .ok (.getstatic 39, 3) := dk_178 0 39 (dk_at dksJ3_grow_2_0 14 rfl rfl)
theorem dJ3_grow_2_17 : decode cJ3_grow_2 17 = .ok (.if_acmp .eq 28, 3) := dk_165 0 28 (dk_at dksJ3_grow_2_0 17 rfl rfl)
theorem dJ3_grow_2_20 : decode cJ3_grow_2 20 = .ok (.iload_n 2, 1) := dk_28 (dk_at dksJ3_grow_2_0 20 rfl rfl)
theorem dJ3_grow_2_21 : decode cJ3_grow_2 21 = .ok (.iload_n 1, 1) := dk_27 (dk_at dksJ3_grow_2_0 21 rfl rfl)
theorem dJ3_grow_2_22 : decode cJ3_grow_2 22 = .ok (.iload_n 2, 1) := dk_28 (dk_at dksJ3_grow_2_0 22 rfl rfl)
theorem dJ3_grow_2_23 : decode cJ3_grow_2 23 = .ok (.isub, 1) := dk_100 (dk_at dksJ3_grow_2_0 23 rfl rfl)
theorem dJ3_grow_2_24 : decode cJ3_grow_2 24 = .ok (.iload_n 2, 1) := dk_28 (dk_at dksJ3_grow_2_1 0 rfl rfl)
theorem dJ3_grow_2_25 : decode cJ3_grow_2 25 = .ok (.iconst 1, 1) := dk_4 (dk_at dksJ3_grow_2_1 1 rfl rfl)
theorem dJ3_grow_2_26 : decode cJ3_grow_2 26 = .ok (.ishr, 1) := dk_122 (dk_at dksJ3_grow_2_1 2 rfl rfl)
theorem dJ3_grow_2_27 : decode cJ3_grow_2 27 = .ok (.invokestatic 73, 3) := dk_184 0 73 (dk_at dksJ3_grow_2_1 3 rfl rfl)
theorem dJ3_grow_2_30 : decode cJ3_grow_2 30 = .ok (.istore_n 3, 1) := dk_62 (dk_at dksJ3_grow_2_1 6 rfl rfl)
theorem dJ3_grow_2_31 : decode cJ3_grow_2 31 = .ok (.aload_n 0, 1) := dk_42 (dk_at dksJ3_grow_2_1 7 rfl rfl)
theorem dJ3_grow_2_32 : decode cJ3_grow_2 32 = .ok (.aload_n 0, 1) := dk_42 (dk_at dksJ3_grow_2_1 8 rfl rfl)
theorem dJ3_grow_2_33 : decode cJ3_grow_2 33 = .ok (.getfield 9, 3) := dk_180 0 9 (dk_at dksJ3_grow_2_1 9 rfl rfl)
theorem dJ3_grow_2_36 : decode cJ3_grow_2 36 = .ok (.iload_n 3, 1) := dk_29 (dk_at dksJ3_grow_2_1 12 rfl rfl)
theorem dJ3_grow_2_37 : decode cJ3_grow_2 37 = .ok (.invokestatic 66, 3) := dk_184 0 66 (dk_at dksJ3_grow_2_1 13 rfl rfl)
theorem dJ3_grow_2_40 : decode cJ3_grow_2 40 = .ok (.dup_x1, 1) := dk_90 (dk_at dksJ3_grow_2_1 16 rfl rfl)
theorem dJ3_grow_2_41 : decode cJ3_grow_2 41 = .ok (.putfield 9, 3) := dk_181 0 9 (dk_at dksJ3_grow_2_1 17 rfl rfl)
theorem dJ3_grow_2_44 : decode cJ3_grow_2 44 = .ok (.areturn, 1) := dk_176 (dk_at dksJ3_grow_2_1 20 rfl rfl)
theorem dJ3_grow_2_45 : decode cJ3_grow_2 45 = .ok (.aload_n 0, 1) := dk_42 (dk_at dksJ3_grow_2_1 21 rfl rfl)
theorem dJ3_grow_2_46 : decode cJ3_grow_2 46 = .ok (.bipush 10, 2) := dk_16 10 (dk_at dksJ3_grow_2_1 22 rfl rfl)
theorem dJ3_grow_2_48 : decode cJ3_grow_2 48 = .ok (.iload_n 1, 1) := dk_27 (dk_at dksJ3_grow_2_2 0 rfl rfl)
theorem dJ3_grow_2_49 : decode cJ3_grow_2 49 = .ok (.invokestatic 79, 3) := dk_184 0 79 (dk_at dksJ3_grow_2_2 1 rfl rfl)
theorem dJ3_grow_2_52 : decode cJ3_grow_2 52 = .ok (.anewarray 7, 3) := dk_189 0 7 (dk_at dksJ3_grow_2_2 4 rfl rfl)
theorem dJ3_grow_2_55 : decode cJ3_grow_2 55 = .ok (.dup_x1, 1) := dk_90 (dk_at dksJ3_grow_2_2 7 rfl rfl)
theorem dJ3_grow_2_56 : decode cJ3_grow_2 56 = .ok (.putfield 9, 3) := dk_181 0 9 (dk_at dksJ3_grow_2_2 8 rfl rfl)
theorem dJ3_grow_2_59 : decode cJ3_grow_2 59 = .ok (.areturn, 1) := dk_176 (dk_at dksJ3_grow_2_2 11 rfl rfl)
abbrev cJ3_get : ByteArray := prog_51_method_20_code
def yJ3_get : MethodName := ⟨RJ3, "get", "(I)Ljava/lang/Object;"⟩
def dkwJ3_get_0 : List UInt8 := [27, 42, 180, 0, 48, 184, 0, 118, 87, 42, 27, 182, 0, 123, 176]
abbrev dktJ3_get_0 : List UInt8 := dkwJ3_get_0 ++ []
theorem dksJ3_get_0 : cJ3_get.data.toList.drop 0 = dktJ3_get_0 := by decide +kernel
theorem dJ3_get_0 : decode cJ3_get 0 = .ok (.iload_n 1, 1) := dk_27 (dk_at dksJ3_get_0 0 rfl rfl)
theorem dJ3_get_1 : decode cJ3_get 1 = .ok (.aload_n 0, 1) := dk_42 (dk_at dksJ3_get_0 1 rfl rfl)
theorem dJ3_get_2 : decode cJ3_get 2 = .ok (.getfield 48, 3) := dk_180 0 48 (dk_at dksJ3_get_0 2 rfl rfl)
theorem dJ3_get_5 : decode cJ3_get 5 = .ok (.invokestatic 118, 3) := dk_184 0 118 (dk_at dksJ3_get_0 5 rfl rfl)
theorem dJ3_get_8 : decode cJ3_get 8 = .ok (.pop, 1) := dk_87 (dk_at dksJ3_get_0 8 rfl rfl)
theorem dJ3_get_9 : decode cJ3_get 9 = .ok (.aload_n 0, 1) := dk_42 (dk_at dksJ3_get_0 9 rfl rfl)
theorem dJ3_get_10 : decode cJ3_get 10 = .ok (.iload_n 1, 1) := dk_27 (dk_at dksJ3_get_0 10 rfl rfl)
theorem dJ3_get_11 : decode cJ3_get 11 = .ok (.invokevirtual 123, 3) := dk_182 0 123 (dk_at dksJ3_get_0 11 rfl rfl)
theorem dJ3_get_14 : decode cJ3_get 14 = .ok (.areturn, 1) := dk_176 (dk_at dksJ3_get_0 14 rfl rfl)
abbrev cJ3_elementData : ByteArray := prog_51_method_18_code
def yJ3_elementData : MethodName := ⟨RJ3, "elementData", "(I)Ljava/lang/Object;"⟩
def dkwJ3_elementData_0 : List UInt8 := [42, 180, 0, 9, 27, 50, 176]
abbrev dktJ3_elementData_0 : List UInt8 := dkwJ3_elementData_0 ++ []
theorem dksJ3_elementData_0 : cJ3_elementData.data.toList.drop 0 = dktJ3_elementData_0 := by decide +kernel
theorem dJ3_elementData_0 : decode cJ3_elementData 0 = .ok (.aload_n 0, 1) := dk_42 (dk_at dksJ3_elementData_0 0 rfl rfl)
theorem dJ3_elementData_1 : decode cJ3_elementData 1 = .ok (.getfield 9, 3) := dk_180 0 9 (dk_at dksJ3_elementData_0 1 rfl rfl)
theorem dJ3_elementData_4 : decode cJ3_elementData 4 = .ok (.iload_n 1, 1) := dk_27 (dk_at dksJ3_elementData_0 4 rfl rfl)
theorem dJ3_elementData_5 : decode cJ3_elementData 5 = .ok (.aaload, 1) := dk_50 (dk_at dksJ3_elementData_0 5 rfl rfl)
theorem dJ3_elementData_6 : decode cJ3_elementData 6 = .ok (.areturn, 1) := dk_176 (dk_at dksJ3_elementData_0 6 rfl rfl)
