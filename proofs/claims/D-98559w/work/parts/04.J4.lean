/-! decode rows of J4 -/
set_option maxRecDepth 100000
abbrev cJ4_init : ByteArray := prog_23_method_2_code
def yJ4_init : MethodName := ⟨RJ4, "<init>", "(I)V"⟩
def dkwJ4_init_1 : List UInt8 := [167, 0, 16, 42, 27, 184, 0, 26, 181, 0, 15, 42, 4, 181, 0, 22, 177]
abbrev dktJ4_init_1 : List UInt8 := dkwJ4_init_1 ++ []
def dkwJ4_init_0 : List UInt8 := [42, 183, 0, 3, 178, 0, 18, 153, 0, 18, 42, 27, 188, 8, 181, 0, 15, 42, 3, 181, 0, 22]
abbrev dktJ4_init_0 : List UInt8 := dkwJ4_init_0 ++ dktJ4_init_1
theorem dksJ4_init_0 : cJ4_init.data.toList.drop 0 = dktJ4_init_0 := by decide +kernel
theorem dksJ4_init_1 : cJ4_init.data.toList.drop 22 = dktJ4_init_1 := dk_seg dksJ4_init_0 22 rfl rfl
theorem dJ4_init_0 : decode cJ4_init 0 = .ok (.aload_n 0, 1) := dk_42 (dk_at dksJ4_init_0 0 rfl rfl)
theorem dJ4_init_1 : decode cJ4_init 1 = .ok (.invokespecial 3, 3) := dk_183 0 3 (dk_at dksJ4_init_0 1 rfl rfl)
theorem dJ4_init_4 : decode cJ4_init 4 = .ok (.getstatic 18, 3) := dk_178 0 18 (dk_at dksJ4_init_0 4 rfl rfl)
theorem dJ4_init_7 : decode cJ4_init 7 = .ok (.ifCond .eq 18, 3) := dk_153 0 18 (dk_at dksJ4_init_0 7 rfl rfl)
theorem dJ4_init_10 : decode cJ4_init 10 = .ok (.aload_n 0, 1) := dk_42 (dk_at dksJ4_init_0 10 rfl rfl)
theorem dJ4_init_11 : decode cJ4_init 11 = .ok (.iload_n 1, 1) := dk_27 (dk_at dksJ4_init_0 11 rfl rfl)
theorem dJ4_init_12 : decode cJ4_init 12 = .ok (.newarray .byte, 2) := dk_188_8 (dk_at dksJ4_init_0 12 rfl rfl)
theorem dJ4_init_14 : decode cJ4_init 14 = .ok (.putfield 15, 3) := dk_181 0 15 (dk_at dksJ4_init_0 14 rfl rfl)
theorem dJ4_init_17 : decode cJ4_init 17 = .ok (.aload_n 0, 1) := dk_42 (dk_at dksJ4_init_0 17 rfl rfl)
theorem dJ4_init_18 : decode cJ4_init 18 = .ok (.iconst 0, 1) := dk_3 (dk_at dksJ4_init_0 18 rfl rfl)
theorem dJ4_init_19 : decode cJ4_init 19 = .ok (.putfield 22, 3) := dk_181 0 22 (dk_at dksJ4_init_0 19 rfl rfl)
theorem dJ4_init_22 : decode cJ4_init 22 = .ok (.goto 16, 3) := dk_167 0 16 (dk_at dksJ4_init_1 0 rfl rfl)
theorem dJ4_init_25 : decode cJ4_init 25 = .ok (.aload_n 0, 1) := dk_42 (dk_at dksJ4_init_1 3 rfl rfl)
theorem dJ4_init_26 : decode cJ4_init 26 = .ok (.iload_n 1, 1) := dk_27 (dk_at dksJ4_init_1 4 rfl rfl)
theorem dJ4_init_27 : decode cJ4_init 27 = .ok (.invokestatic 26, 3) := dk_184 0 26 (dk_at dksJ4_init_1 5 rfl rfl)
theorem dJ4_init_30 : decode cJ4_init 30 = .ok (.putfield 15, 3) := dk_181 0 15 (dk_at dksJ4_init_1 8 rfl rfl)
theorem dJ4_init_33 : decode cJ4_init 33 = .ok (.aload_n 0, 1) := dk_42 (dk_at dksJ4_init_1 11 rfl rfl)
theorem dJ4_init_34 : decode cJ4_init 34 = .ok (.iconst 1, 1) := dk_4 (dk_at dksJ4_init_1 12 rfl rfl)
theorem dJ4_init_35 : decode cJ4_init 35 = .ok (.putfield 22, 3) := dk_181 0 22 (dk_at dksJ4_init_1 13 rfl rfl)
theorem dJ4_init_38 : decode cJ4_init 38 = .ok (.return_, 1) := dk_177 (dk_at dksJ4_init_1 16 rfl rfl)
abbrev cJ4_append : ByteArray := prog_23_method_31_code
def yJ4_append : MethodName := ⟨RJ4, "append", "(C)Ljava/lang/AbstractStringBuilder;"⟩
def dkwJ4_append_3 : List UInt8 := [181, 0, 79, 27, 184, 0, 197, 42, 176]
abbrev dktJ4_append_3 : List UInt8 := dkwJ4_append_3 ++ []
def dkwJ4_append_2 : List UInt8 := [182, 0, 83, 153, 0, 7, 42, 182, 0, 195, 42, 180, 0, 15, 42, 89, 180, 0, 79, 90, 4, 96]
abbrev dktJ4_append_2 : List UInt8 := dkwJ4_append_2 ++ dktJ4_append_3
def dkwJ4_append_1 : List UInt8 := [42, 180, 0, 15, 42, 89, 180, 0, 79, 90, 4, 96, 181, 0, 79, 27, 145, 84, 167, 0, 33, 42]
abbrev dktJ4_append_1 : List UInt8 := dkwJ4_append_1 ++ dktJ4_append_2
def dkwJ4_append_0 : List UInt8 := [42, 42, 180, 0, 79, 4, 96, 182, 0, 100, 42, 182, 0, 83, 153, 0, 31, 27, 184, 0, 191, 153, 0, 24]
abbrev dktJ4_append_0 : List UInt8 := dkwJ4_append_0 ++ dktJ4_append_1
theorem dksJ4_append_0 : cJ4_append.data.toList.drop 0 = dktJ4_append_0 := by decide +kernel
theorem dksJ4_append_1 : cJ4_append.data.toList.drop 24 = dktJ4_append_1 := dk_seg dksJ4_append_0 24 rfl rfl
theorem dksJ4_append_2 : cJ4_append.data.toList.drop 46 = dktJ4_append_2 := dk_seg dksJ4_append_1 22 rfl rfl
theorem dksJ4_append_3 : cJ4_append.data.toList.drop 68 = dktJ4_append_3 := dk_seg dksJ4_append_2 22 rfl rfl
theorem dJ4_append_0 : decode cJ4_append 0 = .ok (.aload_n 0, 1) := dk_42 (dk_at dksJ4_append_0 0 rfl rfl)
theorem dJ4_append_1 : decode cJ4_append 1 = .ok (.aload_n 0, 1) := dk_42 (dk_at dksJ4_append_0 1 rfl rfl)
theorem dJ4_append_2 : decode cJ4_append 2 = .ok (.getfield 79, 3) := dk_180 0 79 (dk_at dksJ4_append_0 2 rfl rfl)
theorem dJ4_append_5 : decode cJ4_append 5 = .ok (.iconst 1, 1) := dk_4 (dk_at dksJ4_append_0 5 rfl rfl)
theorem dJ4_append_6 : decode cJ4_append 6 = .ok (.iadd, 1) := dk_96 (dk_at dksJ4_append_0 6 rfl rfl)
theorem dJ4_append_7 : decode cJ4_append 7 = .ok (.invokevirtual 100, 3) := dk_182 0 100 (dk_at dksJ4_append_0 7 rfl rfl)
theorem dJ4_append_10 : decode cJ4_append 10 = .ok (.aload_n 0, 1) := dk_42 (dk_at dksJ4_append_0 10 rfl rfl)
theorem dJ4_append_11 : decode cJ4_append 11 = .ok (.invokevirtual 83, 3) := dk_182 0 83 (dk_at dksJ4_append_0 11 rfl rfl)
theorem dJ4_append_14 : decode cJ4_append 14 = .ok (.ifCond .eq 31, 3) := dk_153 0 31 (dk_at dksJ4_append_0 14 rfl rfl)
theorem dJ4_append_17 : decode cJ4_append 17 = .ok (.iload_n 1, 1) := dk_27 (dk_at dksJ4_append_0 17 rfl rfl)
theorem dJ4_append_18 : decode cJ4_append 18 = .ok (.invokestatic 191, 3) := dk_184 0 191 (dk_at dksJ4_append_0 18 rfl rfl)
theorem dJ4_append_21 : decode cJ4_append 21 = .ok (.ifCond .eq 24, 3) := dk_153 0 24 (dk_at dksJ4_append_0 21 rfl rfl)
theorem dJ4_append_24 : decode cJ4_append 24 = .ok (.aload_n 0, 1) := dk_42 (dk_at dksJ4_append_1 0 rfl rfl)
theorem dJ4_append_25 : decode cJ4_append 25 = .ok (.getfield 15, 3) := dk_180 0 15 (dk_at dksJ4_append_1 1 rfl rfl)
theorem dJ4_append_28 : decode cJ4_append 28 = .ok (.aload_n 0, 1) := dk_42 (dk_at dksJ4_append_1 4 rfl rfl)
theorem dJ4_append_29 : decode cJ4_append 29 = .ok (.dup, 1) := dk_89 (dk_at dksJ4_append_1 5 rfl rfl)
theorem dJ4_append_30 : decode cJ4_append 30 = .ok (.getfield 79, 3) := dk_180 0 79 (dk_at dksJ4_append_1 6 rfl rfl)
theorem dJ4_append_33 : decode cJ4_append 33 = .ok (.dup_x1, 1) := dk_90 (dk_at dksJ4_append_1 9 rfl rfl)
theorem dJ4_append_34 : decode cJ4_append 34 = .ok (.iconst 1, 1) := dk_4 (dk_at dksJ4_append_1 10 rfl rfl)
theorem dJ4_append_35 : decode cJ4_append 35 = .ok (.iadd, 1) := dk_96 (dk_at dksJ4_append_1 11 rfl rfl)
theorem dJ4_append_36 : decode cJ4_append 36 = .ok (.putfield 79, 3) := dk_181 0 79 (dk_at dksJ4_append_1 12 rfl rfl)
theorem dJ4_append_39 : decode cJ4_append 39 = .ok (.iload_n 1, 1) := dk_27 (dk_at dksJ4_append_1 15 rfl rfl)
theorem dJ4_append_40 : decode cJ4_append 40 = .ok (.i2b, 1) := dk_145 (dk_at dksJ4_append_1 16 rfl rfl)
theorem dJ4_append_41 : decode cJ4_append 41 = .ok (.bastore, 1) := dk_84 (dk_at dksJ4_append_1 17 rfl rfl)
theorem dJ4_append_42 : decode cJ4_append 42 = .ok (.goto 33, 3) := dk_167 0 33 (dk_at dksJ4_append_1 18 rfl rfl)
theorem dJ4_append_45 : decode cJ4_append 45 = .ok (.aload_n 0, 1) := dk_42 (dk_at dksJ4_append_1 21 rfl rfl)
theorem dJ4_append_46 : decode cJ4_append 46 = .ok (.invokevirtual 83, 3) := dk_182 0 83 (dk_at dksJ4_append_2 0 rfl rfl)
theorem dJ4_append_49 : decode cJ4_append 49 = .ok (.ifCond .eq 7, 3) := dk_153 0 7 (dk_at dksJ4_append_2 3 rfl rfl)
theorem dJ4_append_52 : decode cJ4_append 52 = .ok (.aload_n 0, 1) := dk_42 (dk_at dksJ4_append_2 6 rfl rfl)
theorem dJ4_append_53 : decode cJ4_append 53 = .ok (.invokevirtual 195, 3) := dk_182 0 195 (dk_at dksJ4_append_2 7 rfl rfl)
theorem dJ4_append_56 : decode cJ4_append 56 = .ok (.aload_n 0, 1) := dk_42 (dk_at dksJ4_append_2 10 rfl rfl)
theorem dJ4_append_57 : decode cJ4_append 57 = .ok (.getfield 15, 3) := dk_180 0 15 (dk_at dksJ4_append_2 11 rfl rfl)
theorem dJ4_append_60 : decode cJ4_append 60 = .ok (.aload_n 0, 1) := dk_42 (dk_at dksJ4_append_2 14 rfl rfl)
theorem dJ4_append_61 : decode cJ4_append 61 = .ok (.dup, 1) := dk_89 (dk_at dksJ4_append_2 15 rfl rfl)
theorem dJ4_append_62 : decode cJ4_append 62 = .ok (.getfield 79, 3) := dk_180 0 79 (dk_at dksJ4_append_2 16 rfl rfl)
theorem dJ4_append_65 : decode cJ4_append 65 = .ok (.dup_x1, 1) := dk_90 (dk_at dksJ4_append_2 19 rfl rfl)
theorem dJ4_append_66 : decode cJ4_append 66 = .ok (.iconst 1, 1) := dk_4 (dk_at dksJ4_append_2 20 rfl rfl)
theorem dJ4_append_67 : decode cJ4_append 67 = .ok (.iadd, 1) := dk_96 (dk_at dksJ4_append_2 21 rfl rfl)
theorem dJ4_append_68 : decode cJ4_append 68 = .ok (.putfield 79, 3) := dk_181 0 79 (dk_at dksJ4_append_3 0 rfl rfl)
theorem dJ4_append_71 : decode cJ4_append 71 = .ok (.iload_n 1, 1) := dk_27 (dk_at dksJ4_append_3 3 rfl rfl)
theorem dJ4_append_72 : decode cJ4_append 72 = .ok (.invokestatic 197, 3) := dk_184 0 197 (dk_at dksJ4_append_3 4 rfl rfl)
theorem dJ4_append_75 : decode cJ4_append 75 = .ok (.aload_n 0, 1) := dk_42 (dk_at dksJ4_append_3 7 rfl rfl)
theorem dJ4_append_76 : decode cJ4_append 76 = .ok (.areturn, 1) := dk_176 (dk_at dksJ4_append_3 8 rfl rfl)
abbrev cJ4_ensureCapacityInternal : ByteArray := prog_23_method_9_code
def yJ4_ensureCapacityInternal : MethodName := ⟨RJ4, "ensureCapacityInternal", "(I)V"⟩
def dkwJ4_ensureCapacityInternal_1 : List UInt8 := [182, 0, 104, 42, 180, 0, 22, 120, 184, 0, 108, 181, 0, 15, 177]
abbrev dktJ4_ensureCapacityInternal_1 : List UInt8 := dkwJ4_ensureCapacityInternal_1 ++ []
def dkwJ4_ensureCapacityInternal_0 : List UInt8 := [42, 180, 0, 15, 190, 42, 180, 0, 22, 122, 61, 27, 28, 100, 158, 0, 24, 42, 42, 180, 0, 15, 42, 27]
abbrev dktJ4_ensureCapacityInternal_0 : List UInt8 := dkwJ4_ensureCapacityInternal_0 ++ dktJ4_ensureCapacityInternal_1
theorem dksJ4_ensureCapacityInternal_0 : cJ4_ensureCapacityInternal.data.toList.drop 0 = dktJ4_ensureCapacityInternal_0 := by decide +kernel
theorem dksJ4_ensureCapacityInternal_1 : cJ4_ensureCapacityInternal.data.toList.drop 24 = dktJ4_ensureCapacityInternal_1 := dk_seg dksJ4_ensureCapacityInternal_0 24 rfl rfl
theorem dJ4_ensureCapacityInternal_0 : decode cJ4_ensureCapacityInternal 0 = .ok (.aload_n 0, 1) := dk_42 (dk_at dksJ4_ensureCapacityInternal_0 0 rfl rfl)
theorem dJ4_ensureCapacityInternal_1 : decode cJ4_ensureCapacityInternal 1 = .ok (.getfield 15, 3) := dk_180 0 15 (dk_at dksJ4_ensureCapacityInternal_0 1 rfl rfl)
theorem dJ4_ensureCapacityInternal_4 : decode cJ4_ensureCapacityInternal 4 = .ok (.arraylength, 1) := dk_190 (dk_at dksJ4_ensureCapacityInternal_0 4 rfl rfl)
theorem dJ4_ensureCapacityInternal_5 : decode cJ4_ensureCapacityInternal 5 = .ok (.aload_n 0, 1) := dk_42 (dk_at dksJ4_ensureCapacityInternal_0 5 rfl rfl)
theorem dJ4_ensureCapacityInternal_6 : decode cJ4_ensureCapacityInternal 6 = .ok (.getfield 22, 3) := dk_180 0 22 (dk_at dksJ4_ensureCapacityInternal_0 6 rfl rfl)
theorem dJ4_ensureCapacityInternal_9 : decode cJ4_ensureCapacityInternal 9 = .ok (.ishr, 1) := dk_122 (dk_at dksJ4_ensureCapacityInternal_0 9 rfl rfl)
theorem dJ4_ensureCapacityInternal_10 : decode cJ4_ensureCapacityInternal 10 = .ok (.istore_n 2, 1) := dk_61 (dk_at dksJ4_ensureCapacityInternal_0 10 rfl rfl)
theorem dJ4_ensureCapacityInternal_11 : decode cJ4_ensureCapacityInternal 11 = .ok (.iload_n 1, 1) := dk_27 (dk_at dksJ4_ensureCapacityInternal_0 11 rfl rfl)
theorem dJ4_ensureCapacityInternal_12 : decode cJ4_ensureCapacityInternal 12 = .ok (.iload_n 2, 1) := dk_28 (dk_at dksJ4_ensureCapacityInternal_0 12 rfl rfl)
theorem dJ4_ensureCapacityInternal_13 : decode cJ4_ensureCapacityInternal 13 = .ok (.isub, 1) := dk_100 (dk_at dksJ4_ensureCapacityInternal_0 13 rfl rfl)
theorem dJ4_ensureCapacityInternal_14 : decode cJ4_ensureCapacityInternal 14 = .ok (.ifCond .le 24, 3) := dk_158 0 24 (dk_at dksJ4_ensureCapacityInternal_0 14 rfl rfl)
theorem dJ4_ensureCapacityInternal_17 : decode cJ4_ensureCapacityInternal 17 = .ok (.aload_n 0, 1) := dk_42 (dk_at dksJ4_ensureCapacityInternal_0 17 rfl rfl)
theorem dJ4_ensureCapacityInternal_18 : decode cJ4_ensureCapacityInternal 18 = .ok (.aload_n 0, 1) := dk_42 (dk_at dksJ4_ensureCapacityInternal_0 18 rfl rfl)
theorem dJ4_ensureCapacityInternal_19 : decode cJ4_ensureCapacityInternal 19 = .ok (.getfield 15, 3) := dk_180 0 15 (dk_at dksJ4_ensureCapacityInternal_0 19 rfl rfl)
theorem dJ4_ensureCapacityInternal_22 : decode cJ4_ensureCapacityInternal 22 = .ok (.aload_n 0, 1) := dk_42 (dk_at dksJ4_ensureCapacityInternal_0 22 rfl rfl)
theorem dJ4_ensureCapacityInternal_23 : decode cJ4_ensureCapacityInternal 23 = .ok (.iload_n 1, 1) := dk_27 (dk_at dksJ4_ensureCapacityInternal_0 23 rfl rfl)
theorem dJ4_ensureCapacityInternal_24 : decode cJ4_ensureCapacityInternal 24 = .ok (.invokevirtual 104, 3) := dk_182 0 104 (dk_at dksJ4_ensureCapacityInternal_1 0 rfl rfl)
theorem dJ4_ensureCapacityInternal_27 : decode cJ4_ensureCapacityInternal 27 = .ok (.aload_n 0, 1) := dk_42 (dk_at dksJ4_ensureCapacityInternal_1 3 rfl rfl)
theorem dJ4_ensureCapacityInternal_28 : decode cJ4_ensureCapacityInternal 28 = .ok (.getfield 22, 3) := dk_180 0 22 (dk_at dksJ4_ensureCapacityInternal_1 4 rfl rfl)
theorem dJ4_ensureCapacityInternal_31 : decode cJ4_ensureCapacityInternal 31 = .ok (.ishl, 1) := dk_120 (dk_at dksJ4_ensureCapacityInternal_1 7 rfl rfl)
theorem dJ4_ensureCapacityInternal_32 : decode cJ4_ensureCapacityInternal 32 = .ok (.invokestatic 108, 3) := dk_184 0 108 (dk_at dksJ4_ensureCapacityInternal_1 8 rfl rfl)
theorem dJ4_ensureCapacityInternal_35 : decode cJ4_ensureCapacityInternal 35 = .ok (.putfield 15, 3) := dk_181 0 15 (dk_at dksJ4_ensureCapacityInternal_1 11 rfl rfl)
theorem dJ4_ensureCapacityInternal_38 : decode cJ4_ensureCapacityInternal 38 = .ok (.return_, 1) := dk_177 (dk_at dksJ4_ensureCapacityInternal_1 14 rfl rfl)
abbrev cJ4_newCapacity : ByteArray := prog_23_method_10_code
def yJ4_newCapacity : MethodName := ⟨RJ4, "newCapacity", "(I)I"⟩
def dkwJ4_newCapacity_2 : List UInt8 := [183, 0, 124, 191, 21, 5, 42, 180, 0, 22, 122, 172]
abbrev dktJ4_newCapacity_2 : List UInt8 := dkwJ4_newCapacity_2 ++ []
def dkwJ4_newCapacity_1 : List UInt8 := [180, 0, 22, 120, 96, 184, 0, 114, 54, 5, 21, 5, 18, 39, 160, 0, 13, 187, 0, 120, 89, 18, 122]
abbrev dktJ4_newCapacity_1 : List UInt8 := dkwJ4_newCapacity_1 ++ dktJ4_newCapacity_2
def dkwJ4_newCapacity_0 : List UInt8 := [42, 180, 0, 15, 190, 61, 27, 42, 180, 0, 22, 120, 62, 29, 28, 100, 54, 4, 28, 21, 4, 28, 5, 42]
abbrev dktJ4_newCapacity_0 : List UInt8 := dkwJ4_newCapacity_0 ++ dktJ4_newCapacity_1
theorem dksJ4_newCapacity_0 : cJ4_newCapacity.data.toList.drop 0 = dktJ4_newCapacity_0 := by decide +kernel
theorem dksJ4_newCapacity_1 : cJ4_newCapacity.data.toList.drop 24 = dktJ4_newCapacity_1 := dk_seg dksJ4_newCapacity_0 24 rfl rfl
theorem dksJ4_newCapacity_2 : cJ4_newCapacity.data.toList.drop 47 = dktJ4_newCapacity_2 := dk_seg dksJ4_newCapacity_1 23 rfl rfl
theorem dJ4_newCapacity_0 : decode cJ4_newCapacity 0 = .ok (.aload_n 0, 1) := dk_42 (dk_at dksJ4_newCapacity_0 0 rfl rfl)
theorem dJ4_newCapacity_1 : decode cJ4_newCapacity 1 = .ok (.getfield 15, 3) := dk_180 0 15 (dk_at dksJ4_newCapacity_0 1 rfl rfl)
theorem dJ4_newCapacity_4 : decode cJ4_newCapacity 4 = .ok (.arraylength, 1) := dk_190 (dk_at dksJ4_newCapacity_0 4 rfl rfl)
theorem dJ4_newCapacity_5 : decode cJ4_newCapacity 5 = .ok (.istore_n 2, 1) := dk_61 (dk_at dksJ4_newCapacity_0 5 rfl rfl)
theorem dJ4_newCapacity_6 : decode cJ4_newCapacity 6 = .ok (.iload_n 1, 1) := dk_27 (dk_at dksJ4_newCapacity_0 6 rfl rfl)
theorem dJ4_newCapacity_7 : decode cJ4_newCapacity 7 = .ok (.aload_n 0, 1) := dk_42 (dk_at dksJ4_newCapacity_0 7 rfl rfl)
theorem dJ4_newCapacity_8 : decode cJ4_newCapacity 8 = .ok (.getfield 22, 3) := dk_180 0 22 (dk_at dksJ4_newCapacity_0 8 rfl rfl)
theorem dJ4_newCapacity_11 : decode cJ4_newCapacity 11 = .ok (.ishl, 1) := dk_120 (dk_at dksJ4_newCapacity_0 11 rfl rfl)
theorem dJ4_newCapacity_12 : decode cJ4_newCapacity 12 = .ok (.istore_n 3, 1) := dk_62 (dk_at dksJ4_newCapacity_0 12 rfl rfl)
theorem dJ4_newCapacity_13 : decode cJ4_newCapacity 13 = .ok (.iload_n 3, 1) := dk_29 (dk_at dksJ4_newCapacity_0 13 rfl rfl)
theorem dJ4_newCapacity_14 : decode cJ4_newCapacity 14 = .ok (.iload_n 2, 1) := dk_28 (dk_at dksJ4_newCapacity_0 14 rfl rfl)
theorem dJ4_newCapacity_15 : decode cJ4_newCapacity 15 = .ok (.isub, 1) := dk_100 (dk_at dksJ4_newCapacity_0 15 rfl rfl)
theorem dJ4_newCapacity_16 : decode cJ4_newCapacity 16 = .ok (.istore 4, 2) := dk_54 4 (dk_at dksJ4_newCapacity_0 16 rfl rfl)
theorem dJ4_newCapacity_18 : decode cJ4_newCapacity 18 = .ok (.iload_n 2, 1) := dk_28 (dk_at dksJ4_newCapacity_0 18 rfl rfl)
theorem dJ4_newCapacity_19 : decode cJ4_newCapacity 19 = .ok (.iload 4, 2) := dk_21 4 (dk_at dksJ4_newCapacity_0 19 rfl rfl)
theorem dJ4_newCapacity_21 : decode cJ4_newCapacity 21 = .ok (.iload_n 2, 1) := dk_28 (dk_at dksJ4_newCapacity_0 21 rfl rfl)
theorem dJ4_newCapacity_22 : decode cJ4_newCapacity 22 = .ok (.iconst 2, 1) := dk_5 (dk_at dksJ4_newCapacity_0 22 rfl rfl)
theorem dJ4_newCapacity_23 : decode cJ4_newCapacity 23 = .ok (.aload_n 0, 1) := dk_42 (dk_at dksJ4_newCapacity_0 23 rfl rfl)
theorem dJ4_newCapacity_24 : decode cJ4_newCapacity 24 = .ok (.getfield 22, 3) := dk_180 0 22 (dk_at dksJ4_newCapacity_1 0 rfl rfl)
theorem dJ4_newCapacity_27 : decode cJ4_newCapacity 27 = .ok (.ishl, 1) := dk_120 (dk_at dksJ4_newCapacity_1 3 rfl rfl)
theorem dJ4_newCapacity_28 : decode cJ4_newCapacity 28 = .ok (.iadd, 1) := dk_96 (dk_at dksJ4_newCapacity_1 4 rfl rfl)
theorem dJ4_newCapacity_29 : decode cJ4_newCapacity 29 = .ok (.invokestatic 114, 3) := dk_184 0 114 (dk_at dksJ4_newCapacity_1 5 rfl rfl)
theorem dJ4_newCapacity_32 : decode cJ4_newCapacity 32 = .ok (.istore 5, 2) := dk_54 5 (dk_at dksJ4_newCapacity_1 8 rfl rfl)
theorem dJ4_newCapacity_34 : decode cJ4_newCapacity 34 = .ok (.iload 5, 2) := dk_21 5 (dk_at dksJ4_newCapacity_1 10 rfl rfl)
theorem dJ4_newCapacity_36 : decode cJ4_newCapacity 36 = .ok (.ldc 39, 2) := dk_18 39 (dk_at dksJ4_newCapacity_1 12 rfl rfl)
theorem dJ4_newCapacity_38 : decode cJ4_newCapacity 38 = .ok (.if_icmp .ne 13, 3) := dk_160 0 13 (dk_at dksJ4_newCapacity_1 14 rfl rfl)
theorem dJ4_newCapacity_41 : decode cJ4_newCapacity 41 = .ok (.new 120, 3) := dk_187 0 120 (dk_at dksJ4_newCapacity_1 17 rfl rfl)
theorem dJ4_newCapacity_44 : decode cJ4_newCapacity 44 = .ok (.dup, 1) := dk_89 (dk_at dksJ4_newCapacity_1 20 rfl rfl)
theorem dJ4_newCapacity_45 : decode cJ4_newCapacity 45 = .ok (.ldc 122, 2) := dk_18 122 (dk_at dksJ4_newCapacity_1 21 rfl rfl)
theorem dJ4_newCapacity_47 : decode cJ4_newCapacity 47 = .ok (.invokespecial 124, 3) := dk_183 0 124 (dk_at dksJ4_newCapacity_2 0 rfl rfl)
theorem dJ4_newCapacity_50 : decode cJ4_newCapacity 50 = .ok (.athrow, 1) := dk_191 (dk_at dksJ4_newCapacity_2 3 rfl rfl)
theorem dJ4_newCapacity_51 : decode cJ4_newCapacity 51 = .ok (.iload 5, 2) := dk_21 5 (dk_at dksJ4_newCapacity_2 4 rfl rfl)
theorem dJ4_newCapacity_53 : decode cJ4_newCapacity 53 = .ok (.aload_n 0, 1) := dk_42 (dk_at dksJ4_newCapacity_2 6 rfl rfl)
theorem dJ4_newCapacity_54 : decode cJ4_newCapacity 54 = .ok (.getfield 22, 3) := dk_180 0 22 (dk_at dksJ4_newCapacity_2 7 rfl rfl)
theorem dJ4_newCapacity_57 : decode cJ4_newCapacity 57 = .ok (.ishr, 1) := dk_122 (dk_at dksJ4_newCapacity_2 10 rfl rfl)
theorem dJ4_newCapacity_58 : decode cJ4_newCapacity 58 = .ok (.ireturn, 1) := dk_172 (dk_at dksJ4_newCapacity_2 11 rfl rfl)
abbrev cJ4_isLatin1 : ByteArray := prog_23_method_68_code
def yJ4_isLatin1 : MethodName := ⟨RJ4, "isLatin1", "()Z"⟩
def dkwJ4_isLatin1_0 : List UInt8 := [178, 0, 18, 153, 0, 14, 42, 180, 0, 22, 154, 0, 7, 4, 167, 0, 4, 3, 172]
abbrev dktJ4_isLatin1_0 : List UInt8 := dkwJ4_isLatin1_0 ++ []
theorem dksJ4_isLatin1_0 : cJ4_isLatin1.data.toList.drop 0 = dktJ4_isLatin1_0 := by decide +kernel
theorem dJ4_isLatin1_0 : decode cJ4_isLatin1 0 = .ok (.getstatic 18, 3) := dk_178 0 18 (dk_at dksJ4_isLatin1_0 0 rfl rfl)
theorem dJ4_isLatin1_3 : decode cJ4_isLatin1 3 = .ok (.ifCond .eq 14, 3) := dk_153 0 14 (dk_at dksJ4_isLatin1_0 3 rfl rfl)
theorem dJ4_isLatin1_6 : decode cJ4_isLatin1 6 = .ok (.aload_n 0, 1) := dk_42 (dk_at dksJ4_isLatin1_0 6 rfl rfl)
theorem dJ4_isLatin1_7 : decode cJ4_isLatin1 7 = .ok (.getfield 22, 3) := dk_180 0 22 (dk_at dksJ4_isLatin1_0 7 rfl rfl)
theorem dJ4_isLatin1_10 : decode cJ4_isLatin1 10 = .ok (.ifCond .ne 7, 3) := dk_154 0 7 (dk_at dksJ4_isLatin1_0 10 rfl rfl)
theorem dJ4_isLatin1_13 : decode cJ4_isLatin1 13 = .ok (.iconst 1, 1) := dk_4 (dk_at dksJ4_isLatin1_0 13 rfl rfl)
theorem dJ4_isLatin1_14 : decode cJ4_isLatin1 14 = .ok (.goto 4, 3) := dk_167 0 4 (dk_at dksJ4_isLatin1_0 14 rfl rfl)
theorem dJ4_isLatin1_17 : decode cJ4_isLatin1 17 = .ok (.iconst 0, 1) := dk_3 (dk_at dksJ4_isLatin1_0 17 rfl rfl)
theorem dJ4_isLatin1_18 : decode cJ4_isLatin1 18 = .ok (.ireturn, 1) := dk_172 (dk_at dksJ4_isLatin1_0 18 rfl rfl)
abbrev cJ4_inflate : ByteArray := prog_23_method_11_code
def yJ4_inflate : MethodName := ⟨RJ4, "inflate", "()V"⟩
def dkwJ4_inflate_1 : List UInt8 := [42, 180, 0, 79, 184, 0, 125, 42, 43, 181, 0, 15, 42, 4, 181, 0, 22, 177]
abbrev dktJ4_inflate_1 : List UInt8 := dkwJ4_inflate_1 ++ []
def dkwJ4_inflate_0 : List UInt8 := [42, 182, 0, 83, 154, 0, 4, 177, 42, 180, 0, 15, 190, 184, 0, 26, 76, 42, 180, 0, 15, 3, 43, 3]
abbrev dktJ4_inflate_0 : List UInt8 := dkwJ4_inflate_0 ++ dktJ4_inflate_1
theorem dksJ4_inflate_0 : cJ4_inflate.data.toList.drop 0 = dktJ4_inflate_0 := by decide +kernel
theorem dksJ4_inflate_1 : cJ4_inflate.data.toList.drop 24 = dktJ4_inflate_1 := dk_seg dksJ4_inflate_0 24 rfl rfl
theorem dJ4_inflate_0 : decode cJ4_inflate 0 = .ok (.aload_n 0, 1) := dk_42 (dk_at dksJ4_inflate_0 0 rfl rfl)
theorem dJ4_inflate_1 : decode cJ4_inflate 1 = .ok (.invokevirtual 83, 3) := dk_182 0 83 (dk_at dksJ4_inflate_0 1 rfl rfl)
theorem dJ4_inflate_4 : decode cJ4_inflate 4 = .ok (.ifCond .ne 4, 3) := dk_154 0 4 (dk_at dksJ4_inflate_0 4 rfl rfl)
theorem dJ4_inflate_7 : decode cJ4_inflate 7 = .ok (.return_, 1) := dk_177 (dk_at dksJ4_inflate_0 7 rfl rfl)
theorem dJ4_inflate_8 : decode cJ4_inflate 8 = .ok (.aload_n 0, 1) := dk_42 (dk_at dksJ4_inflate_0 8 rfl rfl)
theorem dJ4_inflate_9 : decode cJ4_inflate 9 = .ok (.getfield 15, 3) := dk_180 0 15 (dk_at dksJ4_inflate_0 9 rfl rfl)
theorem dJ4_inflate_12 : decode cJ4_inflate 12 = .ok (.arraylength, 1) := dk_190 (dk_at dksJ4_inflate_0 12 rfl rfl)
theorem dJ4_inflate_13 : decode cJ4_inflate 13 = .ok (.invokestatic 26, 3) := dk_184 0 26 (dk_at dksJ4_inflate_0 13 rfl rfl)
theorem dJ4_inflate_16 : decode cJ4_inflate 16 = .ok (.astore_n 1, 1) := dk_76 (dk_at dksJ4_inflate_0 16 rfl rfl)
theorem dJ4_inflate_17 : decode cJ4_inflate 17 = .ok (.aload_n 0, 1) := dk_42 (dk_at dksJ4_inflate_0 17 rfl rfl)
theorem dJ4_inflate_18 : decode cJ4_inflate 18 = .ok (.getfield 15, 3) := dk_180 0 15 (dk_at dksJ4_inflate_0 18 rfl rfl)
theorem dJ4_inflate_21 : decode cJ4_inflate 21 = .ok (.iconst 0, 1) := dk_3 (dk_at dksJ4_inflate_0 21 rfl rfl)
theorem dJ4_inflate_22 : decode cJ4_inflate 22 = .ok (.aload_n 1, 1) := dk_43 (dk_at dksJ4_inflate_0 22 rfl rfl)
theorem dJ4_inflate_23 : decode cJ4_inflate 23 = .ok (.iconst 0, 1) := dk_3 (dk_at dksJ4_inflate_0 23 rfl rfl)
theorem dJ4_inflate_24 : decode cJ4_inflate 24 = .ok (.aload_n 0, 1) := dk_42 (dk_at dksJ4_inflate_1 0 rfl rfl)
theorem dJ4_inflate_25 : decode cJ4_inflate 25 = .ok (.getfield 79, 3) := dk_180 0 79 (dk_at dksJ4_inflate_1 1 rfl rfl)
theorem dJ4_inflate_28 : decode cJ4_inflate 28 = .ok (.invokestatic 125, 3) := dk_184 0 125 (dk_at dksJ4_inflate_1 4 rfl rfl)
theorem dJ4_inflate_31 : decode cJ4_inflate 31 = .ok (.aload_n 0, 1) := dk_42 (dk_at dksJ4_inflate_1 7 rfl rfl)
theorem dJ4_inflate_32 : decode cJ4_inflate 32 = .ok (.aload_n 1, 1) := dk_43 (dk_at dksJ4_inflate_1 8 rfl rfl)
theorem dJ4_inflate_33 : decode cJ4_inflate 33 = .ok (.putfield 15, 3) := dk_181 0 15 (dk_at dksJ4_inflate_1 9 rfl rfl)
theorem dJ4_inflate_36 : decode cJ4_inflate 36 = .ok (.aload_n 0, 1) := dk_42 (dk_at dksJ4_inflate_1 12 rfl rfl)
theorem dJ4_inflate_37 : decode cJ4_inflate 37 = .ok (.iconst 1, 1) := dk_4 (dk_at dksJ4_inflate_1 13 rfl rfl)
theorem dJ4_inflate_38 : decode cJ4_inflate 38 = .ok (.putfield 22, 3) := dk_181 0 22 (dk_at dksJ4_inflate_1 14 rfl rfl)
theorem dJ4_inflate_41 : decode cJ4_inflate 41 = .ok (.return_, 1) := dk_177 (dk_at dksJ4_inflate_1 17 rfl rfl)
abbrev cJ4_getValue : ByteArray := prog_23_method_64_code
def yJ4_getValue : MethodName := ⟨RJ4, "getValue", "()[B"⟩
theorem dJ4_getValue_0 : decode cJ4_getValue 0 = .ok (.aload_n 0, 1) := by decide +kernel
theorem dJ4_getValue_1 : decode cJ4_getValue 1 = .ok (.getfield 15, 3) := by decide +kernel
theorem dJ4_getValue_4 : decode cJ4_getValue 4 = .ok (.areturn, 1) := by decide +kernel
abbrev cJ4_length : ByteArray := prog_23_method_6_code
def yJ4_length : MethodName := ⟨RJ4, "length", "()I"⟩
theorem dJ4_length_0 : decode cJ4_length 0 = .ok (.aload_n 0, 1) := by decide +kernel
theorem dJ4_length_1 : decode cJ4_length 1 = .ok (.getfield 79, 3) := by decide +kernel
theorem dJ4_length_4 : decode cJ4_length 4 = .ok (.ireturn, 1) := by decide +kernel
abbrev cJ4_append_2 : ByteArray := prog_23_method_32_code
def yJ4_append_2 : MethodName := ⟨RJ4, "append", "(I)Ljava/lang/AbstractStringBuilder;"⟩
def dkwJ4_append_2_2 : List UInt8 := [42, 29, 181, 0, 79, 42, 176]
abbrev dktJ4_append_2_2 : List UInt8 := dkwJ4_append_2_2 ++ []
def dkwJ4_append_2_1 : List UInt8 := [27, 29, 42, 180, 0, 15, 184, 0, 248, 87, 167, 0, 14, 27, 28, 29, 42, 180, 0, 15, 184, 0, 251, 87]
abbrev dktJ4_append_2_1 : List UInt8 := dkwJ4_append_2_1 ++ dktJ4_append_2_2
def dkwJ4_append_2_0 : List UInt8 := [42, 180, 0, 79, 61, 28, 27, 184, 0, 245, 96, 62, 42, 29, 182, 0, 100, 42, 182, 0, 83, 153, 0, 16]
abbrev dktJ4_append_2_0 : List UInt8 := dkwJ4_append_2_0 ++ dktJ4_append_2_1
theorem dksJ4_append_2_0 : cJ4_append_2.data.toList.drop 0 = dktJ4_append_2_0 := by decide +kernel
theorem dksJ4_append_2_1 : cJ4_append_2.data.toList.drop 24 = dktJ4_append_2_1 := dk_seg dksJ4_append_2_0 24 rfl rfl
theorem dksJ4_append_2_2 : cJ4_append_2.data.toList.drop 48 = dktJ4_append_2_2 := dk_seg dksJ4_append_2_1 24 rfl rfl
theorem dJ4_append_2_0 : decode cJ4_append_2 0 = .ok (.aload_n 0, 1) := dk_42 (dk_at dksJ4_append_2_0 0 rfl rfl)
theorem dJ4_append_2_1 : decode cJ4_append_2 1 = .ok (.getfield 79, 3) := dk_180 0 79 (dk_at dksJ4_append_2_0 1 rfl rfl)
theorem dJ4_append_2_4 : decode cJ4_append_2 4 = .ok (.istore_n 2, 1) := dk_61 (dk_at dksJ4_append_2_0 4 rfl rfl)
theorem dJ4_append_2_5 : decode cJ4_append_2 5 = .ok (.iload_n 2, 1) := dk_28 (dk_at dksJ4_append_2_0 5 rfl rfl)
theorem dJ4_append_2_6 : decode cJ4_append_2 6 = .ok (.iload_n 1, 1) := dk_27 (dk_at dksJ4_append_2_0 6 rfl rfl)
theorem dJ4_append_2_7 : decode cJ4_append_2 7 = .ok (.invokestatic 245, 3) := dk_184 0 245 (dk_at dksJ4_append_2_0 7 rfl rfl)
theorem dJ4_append_2_10 : decode cJ4_append_2 10 = .ok (.iadd, 1) := dk_96 (dk_at dksJ4_append_2_0 10 rfl rfl)
theorem dJ4_append_2_11 : decode cJ4_append_2 11 = .ok (.istore_n 3, 1) := dk_62 (dk_at dksJ4_append_2_0 11 rfl rfl)
theorem dJ4_append_2_12 : decode cJ4_append_2 12 = .ok (.aload_n 0, 1) := dk_42 (dk_at dksJ4_append_2_0 12 rfl rfl)
theorem dJ4_append_2_13 : decode cJ4_append_2 13 = .ok (.iload_n 3, 1) := dk_29 (dk_at dksJ4_append_2_0 13 rfl rfl)
theorem dJ4_append_2_14 : decode cJ4_append_2 14 = .ok (.invokevirtual 100, 3) := dk_182 0 100 (dk_at dksJ4_append_2_0 14 rfl rfl)
theorem dJ4_append_2_17 : decode cJ4_append_2 17 = .ok (.aload_n 0, 1) := dk_42 (dk_at dksJ4_append_2_0 17 rfl rfl)
theorem dJ4_append_2_18 : decode cJ4_append_2 18 = .ok (.invokevirtual 83, 3) := dk_182 0 83 (dk_at dksJ4_append_2_0 18 rfl rfl)
theorem dJ4_append_2_21 : decode cJ4_append_2 21 = .ok (.ifCond .eq 16, 3) := dk_153 0 16 (dk_at dksJ4_append_2_0 21 rfl rfl)
theorem dJ4_append_2_24 : decode cJ4_append_2 24 = .ok (.iload_n 1, 1) := dk_27 (dk_at dksJ4_append_2_1 0 rfl rfl)
theorem dJ4_append_2_25 : decode cJ4_append_2 25 = .ok (.iload_n 3, 1) := dk_29 (dk_at dksJ4_append_2_1 1 rfl rfl)
theorem dJ4_append_2_26 : decode cJ4_append_2 26 = .ok (.aload_n 0, 1) := dk_42 (dk_at dksJ4_append_2_1 2 rfl rfl)
theorem dJ4_append_2_27 : decode cJ4_append_2 27 = .ok (.getfield 15, 3) := dk_180 0 15 (dk_at dksJ4_append_2_1 3 rfl rfl)
theorem dJ4_append_2_30 : decode cJ4_append_2 30 = .ok (.invokestatic 248, 3) := dk_184 0 248 (dk_at dksJ4_append_2_1 6 rfl rfl)
theorem dJ4_append_2_33 : decode cJ4_append_2 33 = .ok (.pop, 1) := dk_87 (dk_at dksJ4_append_2_1 9 rfl rfl)
theorem dJ4_append_2_34 : decode cJ4_append_2 34 = .ok (.goto 14, 3) := dk_167 0 14 (dk_at dksJ4_append_2_1 10 rfl rfl)
theorem dJ4_append_2_37 : decode cJ4_append_2 37 = .ok (.iload_n 1, 1) := dk_27 (dk_at dksJ4_append_2_1 13 rfl rfl)
theorem dJ4_append_2_38 : decode cJ4_append_2 38 = .ok (.iload_n 2, 1) := dk_28 (dk_at dksJ4_append_2_1 14 rfl rfl)
theorem dJ4_append_2_39 : decode cJ4_append_2 39 = .ok (.iload_n 3, 1) := dk_29 (dk_at dksJ4_append_2_1 15 rfl rfl)
theorem dJ4_append_2_40 : decode cJ4_append_2 40 = .ok (.aload_n 0, 1) := dk_42 (dk_at dksJ4_append_2_1 16 rfl rfl)
theorem dJ4_append_2_41 : decode cJ4_append_2 41 = .ok (.getfield 15, 3) := dk_180 0 15 (dk_at dksJ4_append_2_1 17 rfl rfl)
theorem dJ4_append_2_44 : decode cJ4_append_2 44 = .ok (.invokestatic 251, 3) := dk_184 0 251 (dk_at dksJ4_append_2_1 20 rfl rfl)
theorem dJ4_append_2_47 : decode cJ4_append_2 47 = .ok (.pop, 1) := dk_87 (dk_at dksJ4_append_2_1 23 rfl rfl)
theorem dJ4_append_2_48 : decode cJ4_append_2 48 = .ok (.aload_n 0, 1) := dk_42 (dk_at dksJ4_append_2_2 0 rfl rfl)
theorem dJ4_append_2_49 : decode cJ4_append_2 49 = .ok (.iload_n 3, 1) := dk_29 (dk_at dksJ4_append_2_2 1 rfl rfl)
theorem dJ4_append_2_50 : decode cJ4_append_2 50 = .ok (.putfield 79, 3) := dk_181 0 79 (dk_at dksJ4_append_2_2 2 rfl rfl)
theorem dJ4_append_2_53 : decode cJ4_append_2 53 = .ok (.aload_n 0, 1) := dk_42 (dk_at dksJ4_append_2_2 5 rfl rfl)
theorem dJ4_append_2_54 : decode cJ4_append_2 54 = .ok (.areturn, 1) := dk_176 (dk_at dksJ4_append_2_2 6 rfl rfl)
abbrev cJ4_append_3 : ByteArray := prog_23_method_22_code
def yJ4_append_3 : MethodName := ⟨RJ4, "append", "(Ljava/lang/String;)Ljava/lang/AbstractStringBuilder;"⟩
def dkwJ4_append_3_1 : List UInt8 := [42, 42, 180, 0, 79, 43, 182, 0, 208, 42, 89, 180, 0, 79, 28, 96, 181, 0, 79, 42, 176]
abbrev dktJ4_append_3_1 : List UInt8 := dkwJ4_append_3_1 ++ []
def dkwJ4_append_3_0 : List UInt8 := [43, 199, 0, 8, 42, 182, 0, 204, 176, 43, 182, 0, 32, 61, 42, 42, 180, 0, 79, 28, 96, 182, 0, 100]
abbrev dktJ4_append_3_0 : List UInt8 := dkwJ4_append_3_0 ++ dktJ4_append_3_1
theorem dksJ4_append_3_0 : cJ4_append_3.data.toList.drop 0 = dktJ4_append_3_0 := by decide +kernel
theorem dksJ4_append_3_1 : cJ4_append_3.data.toList.drop 24 = dktJ4_append_3_1 := dk_seg dksJ4_append_3_0 24 rfl rfl
theorem dJ4_append_3_0 : decode cJ4_append_3 0 = .ok (.aload_n 1, 1) := dk_43 (dk_at dksJ4_append_3_0 0 rfl rfl)
theorem dJ4_append_3_1 : decode cJ4_append_3 1 = .ok (.ifnonnull 8, 3) := dk_199 0 8 (dk_at dksJ4_append_3_0 1 rfl rfl)
theorem dJ4_append_3_4 : decode cJ4_append_3 4 = .ok (.aload_n 0, 1) := dk_42 (dk_at dksJ4_append_3_0 4 rfl rfl)
theorem dJ4_append_3_5 : decode cJ4_append_3 5 = .ok (.invokevirtual 204, 3) := dk_182 0 204 (dk_at dksJ4_append_3_0 5 rfl rfl)
theorem dJ4_append_3_8 : decode cJ4_append_3 8 = .ok (.areturn, 1) := dk_176 (dk_at dksJ4_append_3_0 8 rfl rfl)
theorem dJ4_append_3_9 : decode cJ4_append_3 9 = .ok (.aload_n 1, 1) := dk_43 (dk_at dksJ4_append_3_0 9 rfl rfl)
theorem dJ4_append_3_10 : decode cJ4_append_3 10 = .ok (.invokevirtual 32, 3) := dk_182 0 32 (dk_at dksJ4_append_3_0 10 rfl rfl)
theorem dJ4_append_3_13 : decode cJ4_append_3 13 = .ok (.istore_n 2, 1) := dk_61 (dk_at dksJ4_append_3_0 13 rfl rfl)
theorem dJ4_append_3_14 : decode cJ4_append_3 14 = .ok (.aload_n 0, 1) := dk_42 (dk_at dksJ4_append_3_0 14 rfl rfl)
theorem dJ4_append_3_15 : decode cJ4_append_3 15 = .ok (.aload_n 0, 1) := dk_42 (dk_at dksJ4_append_3_0 15 rfl rfl)
theorem dJ4_append_3_16 : decode cJ4_append_3 16 = .ok (.getfield 79, 3) := dk_180 0 79 (dk_at dksJ4_append_3_0 16 rfl rfl)
theorem dJ4_append_3_19 : decode cJ4_append_3 19 = .ok (.iload_n 2, 1) := dk_28 (dk_at dksJ4_append_3_0 19 rfl rfl)
theorem dJ4_append_3_20 : decode cJ4_append_3 20 = .ok (.iadd, 1) := dk_96 (dk_at dksJ4_append_3_0 20 rfl rfl)
theorem dJ4_append_3_21 : decode cJ4_append_3 21 = .ok (.invokevirtual 100, 3) := dk_182 0 100 (dk_at dksJ4_append_3_0 21 rfl rfl)
theorem dJ4_append_3_24 : decode cJ4_append_3 24 = .ok (.aload_n 0, 1) := dk_42 (dk_at dksJ4_append_3_1 0 rfl rfl)
theorem dJ4_append_3_25 : decode cJ4_append_3 25 = .ok (.aload_n 0, 1) := dk_42 (dk_at dksJ4_append_3_1 1 rfl rfl)
theorem dJ4_append_3_26 : decode cJ4_append_3 26 = .ok (.getfield 79, 3) := dk_180 0 79 (dk_at dksJ4_append_3_1 2 rfl rfl)
theorem dJ4_append_3_29 : decode cJ4_append_3 29 = .ok (.aload_n 1, 1) := dk_43 (dk_at dksJ4_append_3_1 5 rfl rfl)
theorem dJ4_append_3_30 : decode cJ4_append_3 30 = .ok (.invokevirtual 208, 3) := dk_182 0 208 (dk_at dksJ4_append_3_1 6 rfl rfl)
theorem dJ4_append_3_33 : decode cJ4_append_3 33 = .ok (.aload_n 0, 1) := dk_42 (dk_at dksJ4_append_3_1 9 rfl rfl)
theorem dJ4_append_3_34 : decode cJ4_append_3 34 = .ok (.dup, 1) := dk_89 (dk_at dksJ4_append_3_1 10 rfl rfl)
theorem dJ4_append_3_35 : decode cJ4_append_3 35 = .ok (.getfield 79, 3) := dk_180 0 79 (dk_at dksJ4_append_3_1 11 rfl rfl)
theorem dJ4_append_3_38 : decode cJ4_append_3 38 = .ok (.iload_n 2, 1) := dk_28 (dk_at dksJ4_append_3_1 14 rfl rfl)
theorem dJ4_append_3_39 : decode cJ4_append_3 39 = .ok (.iadd, 1) := dk_96 (dk_at dksJ4_append_3_1 15 rfl rfl)
theorem dJ4_append_3_40 : decode cJ4_append_3 40 = .ok (.putfield 79, 3) := dk_181 0 79 (dk_at dksJ4_append_3_1 16 rfl rfl)
theorem dJ4_append_3_43 : decode cJ4_append_3 43 = .ok (.aload_n 0, 1) := dk_42 (dk_at dksJ4_append_3_1 19 rfl rfl)
theorem dJ4_append_3_44 : decode cJ4_append_3 44 = .ok (.areturn, 1) := dk_176 (dk_at dksJ4_append_3_1 20 rfl rfl)
abbrev cJ4_appendNull : ByteArray := prog_23_method_26_code
def yJ4_appendNull : MethodName := ⟨RJ4, "appendNull", "()Ljava/lang/AbstractStringBuilder;"⟩
def dkwJ4_appendNull_3 : List UInt8 := [184, 0, 226, 60, 42, 27, 181, 0, 79, 42, 176]
abbrev dktJ4_appendNull_3 : List UInt8 := dkwJ4_appendNull_3 ++ []
def dkwJ4_appendNull_2 : List UInt8 := [16, 108, 84, 44, 27, 132, 1, 1, 16, 108, 84, 167, 0, 17, 44, 27, 16, 110, 16, 117, 16, 108, 16, 108]
abbrev dktJ4_appendNull_2 : List UInt8 := dkwJ4_appendNull_2 ++ dktJ4_appendNull_3
def dkwJ4_appendNull_1 : List UInt8 := [153, 0, 38, 44, 27, 132, 1, 1, 16, 110, 84, 44, 27, 132, 1, 1, 16, 117, 84, 44, 27, 132, 1, 1]
abbrev dktJ4_appendNull_1 : List UInt8 := dkwJ4_appendNull_1 ++ dktJ4_appendNull_2
def dkwJ4_appendNull_0 : List UInt8 := [42, 42, 180, 0, 79, 7, 96, 182, 0, 100, 42, 180, 0, 79, 60, 42, 180, 0, 15, 77, 42, 182, 0, 83]
abbrev dktJ4_appendNull_0 : List UInt8 := dkwJ4_appendNull_0 ++ dktJ4_appendNull_1
theorem dksJ4_appendNull_0 : cJ4_appendNull.data.toList.drop 0 = dktJ4_appendNull_0 := by decide +kernel
theorem dksJ4_appendNull_1 : cJ4_appendNull.data.toList.drop 24 = dktJ4_appendNull_1 := dk_seg dksJ4_appendNull_0 24 rfl rfl
theorem dksJ4_appendNull_2 : cJ4_appendNull.data.toList.drop 48 = dktJ4_appendNull_2 := dk_seg dksJ4_appendNull_1 24 rfl rfl
theorem dksJ4_appendNull_3 : cJ4_appendNull.data.toList.drop 72 = dktJ4_appendNull_3 := dk_seg dksJ4_appendNull_2 24 rfl rfl
theorem dJ4_appendNull_0 : decode cJ4_appendNull 0 = .ok (.aload_n 0, 1) := dk_42 (dk_at dksJ4_appendNull_0 0 rfl rfl)
theorem dJ4_appendNull_1 : decode cJ4_appendNull 1 = .ok (.aload_n 0, 1) := dk_42 (dk_at dksJ4_appendNull_0 1 rfl rfl)
theorem dJ4_appendNull_2 : decode cJ4_appendNull 2 = .ok (.getfield 79, 3) := dk_180 0 79 (dk_at dksJ4_appendNull_0 2 rfl rfl)
theorem dJ4_appendNull_5 : decode cJ4_appendNull 5 = .ok (.iconst 4, 1) := dk_7 (dk_at dksJ4_appendNull_0 5 rfl rfl)
theorem dJ4_appendNull_6 : decode cJ4_appendNull 6 = .ok (.iadd, 1) := dk_96 (dk_at dksJ4_appendNull_0 6 rfl rfl)
theorem dJ4_appendNull_7 : decode cJ4_appendNull 7 = .ok (.invokevirtual 100, 3) := dk_182 0 100 (dk_at dksJ4_appendNull_0 7 rfl rfl)
theorem dJ4_appendNull_10 : decode cJ4_appendNull 10 = .ok (.aload_n 0, 1) := dk_42 (dk_at dksJ4_appendNull_0 10 rfl rfl)
theorem dJ4_appendNull_11 : decode cJ4_appendNull 11 = .ok (.getfield 79, 3) := dk_180 0 79 (dk_at dksJ4_appendNull_0 11 rfl rfl)
theorem dJ4_appendNull_14 : decode cJ4_appendNull 14 = .ok (.istore_n 1, 1) := dk_60 (dk_at dksJ4_appendNull_0 14 rfl rfl)
theorem dJ4_appendNull_15 : decode cJ4_appendNull 15 = .ok (.aload_n 0, 1) := dk_42 (dk_at dksJ4_appendNull_0 15 rfl rfl)
theorem dJ4_appendNull_16 : decode cJ4_appendNull 16 = .ok (.getfield 15, 3) := dk_180 0 15 (dk_at dksJ4_appendNull_0 16 rfl rfl)
theorem dJ4_appendNull_19 : decode cJ4_appendNull 19 = .ok (.astore_n 2, 1) := dk_77 (dk_at dksJ4_appendNull_0 19 rfl rfl)
theorem dJ4_appendNull_20 : decode cJ4_appendNull 20 = .ok (.aload_n 0, 1) := dk_42 (dk_at dksJ4_appendNull_0 20 rfl rfl)
theorem dJ4_appendNull_21 : decode cJ4_appendNull 21 = .ok (.invokevirtual 83, 3) := dk_182 0 83 (dk_at dksJ4_appendNull_0 21 rfl rfl)
theorem dJ4_appendNull_24 : decode cJ4_appendNull 24 = .ok (.ifCond .eq 38, 3) := dk_153 0 38 (dk_at dksJ4_appendNull_1 0 rfl rfl)
theorem dJ4_appendNull_27 : decode cJ4_appendNull 27 = .ok (.aload_n 2, 1) := dk_44 (dk_at dksJ4_appendNull_1 3 rfl rfl)
theorem dJ4_appendNull_28 : decode cJ4_appendNull 28 = .ok (.iload_n 1, 1) := dk_27 (dk_at dksJ4_appendNull_1 4 rfl rfl)
theorem dJ4_appendNull_29 : decode cJ4_appendNull 29 = .ok (.iinc 1 1, 3) := dk_132 1 1 (dk_at dksJ4_appendNull_1 5 rfl rfl)
theorem dJ4_appendNull_32 : decode cJ4_appendNull 32 = .ok (.bipush 110, 2) := dk_16 110 (dk_at dksJ4_appendNull_1 8 rfl rfl)
theorem dJ4_appendNull_34 : decode cJ4_appendNull 34 = .ok (.bastore, 1) := dk_84 (dk_at dksJ4_appendNull_1 10 rfl rfl)
theorem dJ4_appendNull_35 : decode cJ4_appendNull 35 = .ok (.aload_n 2, 1) := dk_44 (dk_at dksJ4_appendNull_1 11 rfl rfl)
theorem dJ4_appendNull_36 : decode cJ4_appendNull 36 = .ok (.iload_n 1, 1) := dk_27 (dk_at dksJ4_appendNull_1 12 rfl rfl)
theorem dJ4_appendNull_37 : decode cJ4_appendNull 37 = .ok (.iinc 1 1, 3) := dk_132 1 1 (dk_at dksJ4_appendNull_1 13 rfl rfl)
theorem dJ4_appendNull_40 : decode cJ4_appendNull 40 = .ok (.bipush 117, 2) := dk_16 117 (dk_at dksJ4_appendNull_1 16 rfl rfl)
theorem dJ4_appendNull_42 : decode cJ4_appendNull 42 = .ok (.bastore, 1) := dk_84 (dk_at dksJ4_appendNull_1 18 rfl rfl)
theorem dJ4_appendNull_43 : decode cJ4_appendNull 43 = .ok (.aload_n 2, 1) := dk_44 (dk_at dksJ4_appendNull_1 19 rfl rfl)
theorem dJ4_appendNull_44 : decode cJ4_appendNull 44 = .ok (.iload_n 1, 1) := dk_27 (dk_at dksJ4_appendNull_1 20 rfl rfl)
theorem dJ4_appendNull_45 : decode cJ4_appendNull 45 = .ok (.iinc 1 1, 3) := dk_132 1 1 (dk_at dksJ4_appendNull_1 21 rfl rfl)
theorem dJ4_appendNull_48 : decode cJ4_appendNull 48 = .ok (.bipush 108, 2) := dk_16 108 (dk_at dksJ4_appendNull_2 0 rfl rfl)
theorem dJ4_appendNull_50 : decode cJ4_appendNull 50 = .ok (.bastore, 1) := dk_84 (dk_at dksJ4_appendNull_2 2 rfl rfl)
theorem dJ4_appendNull_51 : decode cJ4_appendNull 51 = .ok (.aload_n 2, 1) := dk_44 (dk_at dksJ4_appendNull_2 3 rfl rfl)
theorem dJ4_appendNull_52 : decode cJ4_appendNull 52 = .ok (.iload_n 1, 1) := dk_27 (dk_at dksJ4_appendNull_2 4 rfl rfl)
theorem dJ4_appendNull_53 : decode cJ4_appendNull 53 = .ok (.iinc 1 1, 3) := dk_132 1 1 (dk_at dksJ4_appendNull_2 5 rfl rfl)
theorem dJ4_appendNull_56 : decode cJ4_appendNull 56 = .ok (.bipush 108, 2) := dk_16 108 (dk_at dksJ4_appendNull_2 8 rfl rfl)
theorem dJ4_appendNull_58 : decode cJ4_appendNull 58 = .ok (.bastore, 1) := dk_84 (dk_at dksJ4_appendNull_2 10 rfl rfl)
theorem dJ4_appendNull_59 : decode cJ4_appendNull 59 = .ok (.goto 17, 3) := dk_167 0 17 (dk_at dksJ4_appendNull_2 11 rfl rfl)
theorem dJ4_appendNull_62 : decode cJ4_appendNull 62 = .ok (.aload_n 2, 1) := dk_44 (dk_at dksJ4_appendNull_2 14 rfl rfl)
theorem dJ4_appendNull_63 : decode cJ4_appendNull 63 = .ok (.iload_n 1, 1) := dk_27 (dk_at dksJ4_appendNull_2 15 rfl rfl)
theorem dJ4_appendNull_64 : decode cJ4_appendNull 64 = .ok (.bipush 110, 2) := dk_16 110 (dk_at dksJ4_appendNull_2 16 rfl rfl)
theorem dJ4_appendNull_66 : decode cJ4_appendNull 66 = .ok (.bipush 117, 2) := dk_16 117 (dk_at dksJ4_appendNull_2 18 rfl rfl)
theorem dJ4_appendNull_68 : decode cJ4_appendNull 68 = .ok (.bipush 108, 2) := dk_16 108 (dk_at dksJ4_appendNull_2 20 rfl rfl)
theorem dJ4_appendNull_70 : decode cJ4_appendNull 70 = .ok (.bipush 108, 2) := dk_16 108 (dk_at dksJ4_appendNull_2 22 rfl rfl)
theorem dJ4_appendNull_72 : decode cJ4_appendNull 72 = .ok (.invokestatic 226, 3) := dk_184 0 226 (dk_at dksJ4_appendNull_3 0 rfl rfl)
theorem dJ4_appendNull_75 : decode cJ4_appendNull 75 = .ok (.istore_n 1, 1) := dk_60 (dk_at dksJ4_appendNull_3 3 rfl rfl)
theorem dJ4_appendNull_76 : decode cJ4_appendNull 76 = .ok (.aload_n 0, 1) := dk_42 (dk_at dksJ4_appendNull_3 4 rfl rfl)
theorem dJ4_appendNull_77 : decode cJ4_appendNull 77 = .ok (.iload_n 1, 1) := dk_27 (dk_at dksJ4_appendNull_3 5 rfl rfl)
theorem dJ4_appendNull_78 : decode cJ4_appendNull 78 = .ok (.putfield 79, 3) := dk_181 0 79 (dk_at dksJ4_appendNull_3 6 rfl rfl)
theorem dJ4_appendNull_81 : decode cJ4_appendNull 81 = .ok (.aload_n 0, 1) := dk_42 (dk_at dksJ4_appendNull_3 9 rfl rfl)
theorem dJ4_appendNull_82 : decode cJ4_appendNull 82 = .ok (.areturn, 1) := dk_176 (dk_at dksJ4_appendNull_3 10 rfl rfl)
abbrev cJ4_putStringAt : ByteArray := prog_23_method_73_code
def yJ4_putStringAt : MethodName := ⟨RJ4, "putStringAt", "(ILjava/lang/String;)V"⟩
def dkwJ4_putStringAt_0 : List UInt8 := [42, 44, 182, 1, 141, 44, 42, 180, 0, 15, 27, 42, 180, 0, 22, 182, 1, 143, 177]
abbrev dktJ4_putStringAt_0 : List UInt8 := dkwJ4_putStringAt_0 ++ []
theorem dksJ4_putStringAt_0 : cJ4_putStringAt.data.toList.drop 0 = dktJ4_putStringAt_0 := by decide +kernel
theorem dJ4_putStringAt_0 : decode cJ4_putStringAt 0 = .ok (.aload_n 0, 1) := dk_42 (dk_at dksJ4_putStringAt_0 0 rfl rfl)
theorem dJ4_putStringAt_1 : decode cJ4_putStringAt 1 = .ok (.aload_n 2, 1) := dk_44 (dk_at dksJ4_putStringAt_0 1 rfl rfl)
theorem dJ4_putStringAt_2 : decode cJ4_putStringAt 2 = .ok (.invokevirtual 397, 3) := dk_182 1 141 (dk_at dksJ4_putStringAt_0 2 rfl rfl)
theorem dJ4_putStringAt_5 : decode cJ4_putStringAt 5 = .ok (.aload_n 2, 1) := dk_44 (dk_at dksJ4_putStringAt_0 5 rfl rfl)
theorem dJ4_putStringAt_6 : decode cJ4_putStringAt 6 = .ok (.aload_n 0, 1) := dk_42 (dk_at dksJ4_putStringAt_0 6 rfl rfl)
theorem dJ4_putStringAt_7 : decode cJ4_putStringAt 7 = .ok (.getfield 15, 3) := dk_180 0 15 (dk_at dksJ4_putStringAt_0 7 rfl rfl)
theorem dJ4_putStringAt_10 : decode cJ4_putStringAt 10 = .ok (.iload_n 1, 1) := dk_27 (dk_at dksJ4_putStringAt_0 10 rfl rfl)
theorem dJ4_putStringAt_11 : decode cJ4_putStringAt 11 = .ok (.aload_n 0, 1) := dk_42 (dk_at dksJ4_putStringAt_0 11 rfl rfl)
theorem dJ4_putStringAt_12 : decode cJ4_putStringAt 12 = .ok (.getfield 22, 3) := dk_180 0 22 (dk_at dksJ4_putStringAt_0 12 rfl rfl)
theorem dJ4_putStringAt_15 : decode cJ4_putStringAt 15 = .ok (.invokevirtual 399, 3) := dk_182 1 143 (dk_at dksJ4_putStringAt_0 15 rfl rfl)
theorem dJ4_putStringAt_18 : decode cJ4_putStringAt 18 = .ok (.return_, 1) := dk_177 (dk_at dksJ4_putStringAt_0 18 rfl rfl)
abbrev cJ4_inflateIfNeededFor : ByteArray := prog_23_method_71_code
def yJ4_inflateIfNeededFor : MethodName := ⟨RJ4, "inflateIfNeededFor", "(Ljava/lang/String;)V"⟩
def dkwJ4_inflateIfNeededFor_0 : List UInt8 := [178, 0, 18, 153, 0, 18, 42, 180, 0, 22, 43, 182, 0, 40, 159, 0, 7, 42, 182, 0, 195, 177]
abbrev dktJ4_inflateIfNeededFor_0 : List UInt8 := dkwJ4_inflateIfNeededFor_0 ++ []
theorem dksJ4_inflateIfNeededFor_0 : cJ4_inflateIfNeededFor.data.toList.drop 0 = dktJ4_inflateIfNeededFor_0 := by decide +kernel
theorem dJ4_inflateIfNeededFor_0 : decode cJ4_inflateIfNeededFor 0 = .ok (.getstatic 18, 3) := dk_178 0 18 (dk_at dksJ4_inflateIfNeededFor_0 0 rfl rfl)
theorem dJ4_inflateIfNeededFor_3 : decode cJ4_inflateIfNeededFor 3 = .ok (.ifCond .eq 18, 3) := dk_153 0 18 (dk_at dksJ4_inflateIfNeededFor_0 3 rfl rfl)
theorem dJ4_inflateIfNeededFor_6 : decode cJ4_inflateIfNeededFor 6 = .ok (.aload_n 0, 1) := dk_42 (dk_at dksJ4_inflateIfNeededFor_0 6 rfl rfl)
theorem dJ4_inflateIfNeededFor_7 : decode cJ4_inflateIfNeededFor 7 = .ok (.getfield 22, 3) := dk_180 0 22 (dk_at dksJ4_inflateIfNeededFor_0 7 rfl rfl)
theorem dJ4_inflateIfNeededFor_10 : decode cJ4_inflateIfNeededFor 10 = .ok (.aload_n 1, 1) := dk_43 (dk_at dksJ4_inflateIfNeededFor_0 10 rfl rfl)
theorem dJ4_inflateIfNeededFor_11 : decode cJ4_inflateIfNeededFor 11 = .ok (.invokevirtual 40, 3) := dk_182 0 40 (dk_at dksJ4_inflateIfNeededFor_0 11 rfl rfl)
theorem dJ4_inflateIfNeededFor_14 : decode cJ4_inflateIfNeededFor 14 = .ok (.if_icmp .eq 7, 3) := dk_159 0 7 (dk_at dksJ4_inflateIfNeededFor_0 14 rfl rfl)
theorem dJ4_inflateIfNeededFor_17 : decode cJ4_inflateIfNeededFor 17 = .ok (.aload_n 0, 1) := dk_42 (dk_at dksJ4_inflateIfNeededFor_0 17 rfl rfl)
theorem dJ4_inflateIfNeededFor_18 : decode cJ4_inflateIfNeededFor 18 = .ok (.invokevirtual 195, 3) := dk_182 0 195 (dk_at dksJ4_inflateIfNeededFor_0 18 rfl rfl)
theorem dJ4_inflateIfNeededFor_21 : decode cJ4_inflateIfNeededFor 21 = .ok (.return_, 1) := dk_177 (dk_at dksJ4_inflateIfNeededFor_0 21 rfl rfl)
