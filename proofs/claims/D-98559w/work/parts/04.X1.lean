/-! decode rows of X1 -/
set_option maxRecDepth 100000
abbrev cX1_init : ByteArray := prog_1_method_1_code
def yX1_init : MethodName := ⟨RX1, "<init>", "()V"⟩
def dkwX1_init_5 : List UInt8 := [181, 0, 66, 177]
abbrev dktX1_init_5 : List UInt8 := dkwX1_init_5 ++ []
def dkwX1_init_4 : List UInt8 := [181, 0, 55, 42, 187, 0, 59, 89, 42, 183, 0, 61, 181, 0, 62, 42, 187, 0, 7, 89, 183, 0, 9]
abbrev dktX1_init_4 : List UInt8 := dkwX1_init_4 ++ dktX1_init_5
def dkwX1_init_3 : List UInt8 := [181, 0, 39, 42, 187, 0, 43, 89, 42, 183, 0, 45, 181, 0, 48, 42, 187, 0, 52, 89, 42, 183, 0, 54]
abbrev dktX1_init_3 : List UInt8 := dkwX1_init_3 ++ dktX1_init_4
def dkwX1_init_2 : List UInt8 := [181, 0, 25, 42, 187, 0, 29, 89, 183, 0, 31, 181, 0, 32, 42, 187, 0, 36, 89, 183, 0, 38]
abbrev dktX1_init_2 : List UInt8 := dkwX1_init_2 ++ dktX1_init_3
def dkwX1_init_1 : List UInt8 := [181, 0, 16, 42, 187, 0, 7, 89, 183, 0, 9, 181, 0, 19, 42, 187, 0, 22, 89, 183, 0, 24]
abbrev dktX1_init_1 : List UInt8 := dkwX1_init_1 ++ dktX1_init_2
def dkwX1_init_0 : List UInt8 := [42, 183, 0, 1, 42, 187, 0, 7, 89, 183, 0, 9, 181, 0, 10, 42, 187, 0, 7, 89, 183, 0, 9]
abbrev dktX1_init_0 : List UInt8 := dkwX1_init_0 ++ dktX1_init_1
theorem dksX1_init_0 : cX1_init.data.toList.drop 0 = dktX1_init_0 := by decide +kernel
theorem dksX1_init_1 : cX1_init.data.toList.drop 23 = dktX1_init_1 := dk_seg dksX1_init_0 23 rfl rfl
theorem dksX1_init_2 : cX1_init.data.toList.drop 45 = dktX1_init_2 := dk_seg dksX1_init_1 22 rfl rfl
theorem dksX1_init_3 : cX1_init.data.toList.drop 67 = dktX1_init_3 := dk_seg dksX1_init_2 22 rfl rfl
theorem dksX1_init_4 : cX1_init.data.toList.drop 91 = dktX1_init_4 := dk_seg dksX1_init_3 24 rfl rfl
theorem dksX1_init_5 : cX1_init.data.toList.drop 114 = dktX1_init_5 := dk_seg dksX1_init_4 23 rfl rfl
theorem dX1_init_0 : decode cX1_init 0 = .ok (.aload_n 0, 1) := dk_42 (dk_at dksX1_init_0 0 rfl rfl)
theorem dX1_init_1 : decode cX1_init 1 = .ok (.invokespecial 1, 3) := dk_183 0 1 (dk_at dksX1_init_0 1 rfl rfl)
theorem dX1_init_4 : decode cX1_init 4 = .ok (.aload_n 0, 1) := dk_42 (dk_at dksX1_init_0 4 rfl rfl)
theorem dX1_init_5 : decode cX1_init 5 = .ok (.new 7, 3) := dk_187 0 7 (dk_at dksX1_init_0 5 rfl rfl)
theorem dX1_init_8 : decode cX1_init 8 = .ok (.dup, 1) := dk_89 (dk_at dksX1_init_0 8 rfl rfl)
theorem dX1_init_9 : decode cX1_init 9 = .ok (.invokespecial 9, 3) := dk_183 0 9 (dk_at dksX1_init_0 9 rfl rfl)
theorem dX1_init_12 : decode cX1_init 12 = .ok (.putfield 10, 3) := dk_181 0 10 (dk_at dksX1_init_0 12 rfl rfl)
theorem dX1_init_15 : decode cX1_init 15 = .ok (.aload_n 0, 1) := dk_42 (dk_at dksX1_init_0 15 rfl rfl)
theorem dX1_init_16 : decode cX1_init 16 = .ok (.new 7, 3) := dk_187 0 7 (dk_at dksX1_init_0 16 rfl rfl)
theorem dX1_init_19 : decode cX1_init 19 = .ok (.dup, 1) := dk_89 (dk_at dksX1_init_0 19 rfl rfl)
theorem dX1_init_20 : decode cX1_init 20 = .ok (.invokespecial 9, 3) := dk_183 0 9 (dk_at dksX1_init_0 20 rfl rfl)
theorem dX1_init_23 : decode cX1_init 23 = .ok (.putfield 16, 3) := dk_181 0 16 (dk_at dksX1_init_1 0 rfl rfl)
theorem dX1_init_26 : decode cX1_init 26 = .ok (.aload_n 0, 1) := dk_42 (dk_at dksX1_init_1 3 rfl rfl)
theorem dX1_init_27 : decode cX1_init 27 = .ok (.new 7, 3) := dk_187 0 7 (dk_at dksX1_init_1 4 rfl rfl)
theorem dX1_init_30 : decode cX1_init 30 = .ok (.dup, 1) := dk_89 (dk_at dksX1_init_1 7 rfl rfl)
theorem dX1_init_31 : decode cX1_init 31 = .ok (.invokespecial 9, 3) := dk_183 0 9 (dk_at dksX1_init_1 8 rfl rfl)
theorem dX1_init_34 : decode cX1_init 34 = .ok (.putfield 19, 3) := dk_181 0 19 (dk_at dksX1_init_1 11 rfl rfl)
theorem dX1_init_37 : decode cX1_init 37 = .ok (.aload_n 0, 1) := dk_42 (dk_at dksX1_init_1 14 rfl rfl)
theorem dX1_init_38 : decode cX1_init 38 = .ok (.new 22, 3) := dk_187 0 22 (dk_at dksX1_init_1 15 rfl rfl)
theorem dX1_init_41 : decode cX1_init 41 = .ok (.dup, 1) := dk_89 (dk_at dksX1_init_1 18 rfl rfl)
theorem dX1_init_42 : decode cX1_init 42 = .ok (.invokespecial 24, 3) := dk_183 0 24 (dk_at dksX1_init_1 19 rfl rfl)
theorem dX1_init_45 : decode cX1_init 45 = .ok (.putfield 25, 3) := dk_181 0 25 (dk_at dksX1_init_2 0 rfl rfl)
theorem dX1_init_48 : decode cX1_init 48 = .ok (.aload_n 0, 1) := dk_42 (dk_at dksX1_init_2 3 rfl rfl)
theorem dX1_init_49 : decode cX1_init 49 = .ok (.new 29, 3) := dk_187 0 29 (dk_at dksX1_init_2 4 rfl rfl)
theorem dX1_init_52 : decode cX1_init 52 = .ok (.dup, 1) := dk_89 (dk_at dksX1_init_2 7 rfl rfl)
theorem dX1_init_53 : decode cX1_init 53 = .ok (.invokespecial 31, 3) := dk_183 0 31 (dk_at dksX1_init_2 8 rfl rfl)
theorem dX1_init_56 : decode cX1_init 56 = .ok (.putfield 32, 3) := dk_181 0 32 (dk_at dksX1_init_2 11 rfl rfl)
theorem dX1_init_59 : decode cX1_init 59 = .ok (.aload_n 0, 1) := dk_42 (dk_at dksX1_init_2 14 rfl rfl)
theorem dX1_init_60 : decode cX1_init 60 = .ok (.new 36, 3) := dk_187 0 36 (dk_at dksX1_init_2 15 rfl rfl)
theorem dX1_init_63 : decode cX1_init 63 = .ok (.dup, 1) := dk_89 (dk_at dksX1_init_2 18 rfl rfl)
theorem dX1_init_64 : decode cX1_init 64 = .ok (.invokespecial 38, 3) := dk_183 0 38 (dk_at dksX1_init_2 19 rfl rfl)
theorem dX1_init_67 : decode cX1_init 67 = .ok (.putfield 39, 3) := dk_181 0 39 (dk_at dksX1_init_3 0 rfl rfl)
theorem dX1_init_70 : decode cX1_init 70 = .ok (.aload_n 0, 1) := dk_42 (dk_at dksX1_init_3 3 rfl rfl)
theorem dX1_init_71 : decode cX1_init 71 = .ok (.new 43, 3) := dk_187 0 43 (dk_at dksX1_init_3 4 rfl rfl)
theorem dX1_init_74 : decode cX1_init 74 = .ok (.dup, 1) := dk_89 (dk_at dksX1_init_3 7 rfl rfl)
theorem dX1_init_75 : decode cX1_init 75 = .ok (.aload_n 0, 1) := dk_42 (dk_at dksX1_init_3 8 rfl rfl)
theorem dX1_init_76 : decode cX1_init 76 = .ok (.invokespecial 45, 3) := dk_183 0 45 (dk_at dksX1_init_3 9 rfl rfl)
theorem dX1_init_79 : decode cX1_init 79 = .ok (.putfield 48, 3) := dk_181 0 48 (dk_at dksX1_init_3 12 rfl rfl)
theorem dX1_init_82 : decode cX1_init 82 = .ok (.aload_n 0, 1) := dk_42 (dk_at dksX1_init_3 15 rfl rfl)
theorem dX1_init_83 : decode cX1_init 83 = .ok (.new 52, 3) := dk_187 0 52 (dk_at dksX1_init_3 16 rfl rfl)
theorem dX1_init_86 : decode cX1_init 86 = .ok (.dup, 1) := dk_89 (dk_at dksX1_init_3 19 rfl rfl)
theorem dX1_init_87 : decode cX1_init 87 = .ok (.aload_n 0, 1) := dk_42 (dk_at dksX1_init_3 20 rfl rfl)
theorem dX1_init_88 : decode cX1_init 88 = .ok (.invokespecial 54, 3) := dk_183 0 54 (dk_at dksX1_init_3 21 rfl rfl)
theorem dX1_init_91 : decode cX1_init 91 = .ok (.putfield 55, 3) := dk_181 0 55 (dk_at dksX1_init_4 0 rfl rfl)
theorem dX1_init_94 : decode cX1_init 94 = .ok (.aload_n 0, 1) := dk_42 (dk_at dksX1_init_4 3 rfl rfl)
theorem dX1_init_95 : decode cX1_init 95 = .ok (.new 59, 3) := dk_187 0 59 (dk_at dksX1_init_4 4 rfl rfl)
theorem dX1_init_98 : decode cX1_init 98 = .ok (.dup, 1) := dk_89 (dk_at dksX1_init_4 7 rfl rfl)
theorem dX1_init_99 : decode cX1_init 99 = .ok (.aload_n 0, 1) := dk_42 (dk_at dksX1_init_4 8 rfl rfl)
theorem dX1_init_100 : decode cX1_init 100 = .ok (.invokespecial 61, 3) := dk_183 0 61 (dk_at dksX1_init_4 9 rfl rfl)
theorem dX1_init_103 : decode cX1_init 103 = .ok (.putfield 62, 3) := dk_181 0 62 (dk_at dksX1_init_4 12 rfl rfl)
theorem dX1_init_106 : decode cX1_init 106 = .ok (.aload_n 0, 1) := dk_42 (dk_at dksX1_init_4 15 rfl rfl)
theorem dX1_init_107 : decode cX1_init 107 = .ok (.new 7, 3) := dk_187 0 7 (dk_at dksX1_init_4 16 rfl rfl)
theorem dX1_init_110 : decode cX1_init 110 = .ok (.dup, 1) := dk_89 (dk_at dksX1_init_4 19 rfl rfl)
theorem dX1_init_111 : decode cX1_init 111 = .ok (.invokespecial 9, 3) := dk_183 0 9 (dk_at dksX1_init_4 20 rfl rfl)
theorem dX1_init_114 : decode cX1_init 114 = .ok (.putfield 66, 3) := dk_181 0 66 (dk_at dksX1_init_5 0 rfl rfl)
theorem dX1_init_117 : decode cX1_init 117 = .ok (.return_, 1) := dk_177 (dk_at dksX1_init_5 3 rfl rfl)
abbrev cX1_feed : ByteArray := prog_1_method_3_code
def yX1_feed : MethodName := ⟨RX1, "feed", "(IIIII)I"⟩
def dkwX1_feed_1 : List UInt8 := [89, 7, 21, 5, 79, 182, 0, 69, 172]
abbrev dktX1_feed_1 : List UInt8 := dkwX1_feed_1 ++ []
def dkwX1_feed_0 : List UInt8 := [42, 180, 0, 25, 8, 188, 10, 89, 3, 27, 79, 89, 4, 28, 79, 89, 5, 29, 79, 89, 6, 21, 4, 79]
abbrev dktX1_feed_0 : List UInt8 := dkwX1_feed_0 ++ dktX1_feed_1
theorem dksX1_feed_0 : cX1_feed.data.toList.drop 0 = dktX1_feed_0 := by decide +kernel
theorem dksX1_feed_1 : cX1_feed.data.toList.drop 24 = dktX1_feed_1 := dk_seg dksX1_feed_0 24 rfl rfl
theorem dX1_feed_0 : decode cX1_feed 0 = .ok (.aload_n 0, 1) := dk_42 (dk_at dksX1_feed_0 0 rfl rfl)
theorem dX1_feed_1 : decode cX1_feed 1 = .ok (.getfield 25, 3) := dk_180 0 25 (dk_at dksX1_feed_0 1 rfl rfl)
theorem dX1_feed_4 : decode cX1_feed 4 = .ok (.iconst 5, 1) := dk_8 (dk_at dksX1_feed_0 4 rfl rfl)
theorem dX1_feed_5 : decode cX1_feed 5 = .ok (.newarray .int, 2) := dk_188_10 (dk_at dksX1_feed_0 5 rfl rfl)
theorem dX1_feed_7 : decode cX1_feed 7 = .ok (.dup, 1) := dk_89 (dk_at dksX1_feed_0 7 rfl rfl)
theorem dX1_feed_8 : decode cX1_feed 8 = .ok (.iconst 0, 1) := dk_3 (dk_at dksX1_feed_0 8 rfl rfl)
theorem dX1_feed_9 : decode cX1_feed 9 = .ok (.iload_n 1, 1) := dk_27 (dk_at dksX1_feed_0 9 rfl rfl)
theorem dX1_feed_10 : decode cX1_feed 10 = .ok (.iastore, 1) := dk_79 (dk_at dksX1_feed_0 10 rfl rfl)
theorem dX1_feed_11 : decode cX1_feed 11 = .ok (.dup, 1) := dk_89 (dk_at dksX1_feed_0 11 rfl rfl)
theorem dX1_feed_12 : decode cX1_feed 12 = .ok (.iconst 1, 1) := dk_4 (dk_at dksX1_feed_0 12 rfl rfl)
theorem dX1_feed_13 : decode cX1_feed 13 = .ok (.iload_n 2, 1) := dk_28 (dk_at dksX1_feed_0 13 rfl rfl)
theorem dX1_feed_14 : decode cX1_feed 14 = .ok (.iastore, 1) := dk_79 (dk_at dksX1_feed_0 14 rfl rfl)
theorem dX1_feed_15 : decode cX1_feed 15 = .ok (.dup, 1) := dk_89 (dk_at dksX1_feed_0 15 rfl rfl)
theorem dX1_feed_16 : decode cX1_feed 16 = .ok (.iconst 2, 1) := dk_5 (dk_at dksX1_feed_0 16 rfl rfl)
theorem dX1_feed_17 : decode cX1_feed 17 = .ok (.iload_n 3, 1) := dk_29 (dk_at dksX1_feed_0 17 rfl rfl)
theorem dX1_feed_18 : decode cX1_feed 18 = .ok (.iastore, 1) := dk_79 (dk_at dksX1_feed_0 18 rfl rfl)
theorem dX1_feed_19 : decode cX1_feed 19 = .ok (.dup, 1) := dk_89 (dk_at dksX1_feed_0 19 rfl rfl)
theorem dX1_feed_20 : decode cX1_feed 20 = .ok (.iconst 3, 1) := dk_6 (dk_at dksX1_feed_0 20 rfl rfl)
theorem dX1_feed_21 : decode cX1_feed 21 = .ok (.iload 4, 2) := dk_21 4 (dk_at dksX1_feed_0 21 rfl rfl)
theorem dX1_feed_23 : decode cX1_feed 23 = .ok (.iastore, 1) := dk_79 (dk_at dksX1_feed_0 23 rfl rfl)
theorem dX1_feed_24 : decode cX1_feed 24 = .ok (.dup, 1) := dk_89 (dk_at dksX1_feed_1 0 rfl rfl)
theorem dX1_feed_25 : decode cX1_feed 25 = .ok (.iconst 4, 1) := dk_7 (dk_at dksX1_feed_1 1 rfl rfl)
theorem dX1_feed_26 : decode cX1_feed 26 = .ok (.iload 5, 2) := dk_21 5 (dk_at dksX1_feed_1 2 rfl rfl)
theorem dX1_feed_28 : decode cX1_feed 28 = .ok (.iastore, 1) := dk_79 (dk_at dksX1_feed_1 4 rfl rfl)
theorem dX1_feed_29 : decode cX1_feed 29 = .ok (.invokevirtual 69, 3) := dk_182 0 69 (dk_at dksX1_feed_1 5 rfl rfl)
theorem dX1_feed_32 : decode cX1_feed 32 = .ok (.ireturn, 1) := dk_172 (dk_at dksX1_feed_1 8 rfl rfl)
abbrev cX1_end : ByteArray := prog_1_method_4_code
def yX1_end : MethodName := ⟨RX1, "end", "(I)Z"⟩
def dkwX1_end_0 : List UInt8 := [42, 180, 0, 25, 27, 182, 0, 73, 172]
abbrev dktX1_end_0 : List UInt8 := dkwX1_end_0 ++ []
theorem dksX1_end_0 : cX1_end.data.toList.drop 0 = dktX1_end_0 := by decide +kernel
theorem dX1_end_0 : decode cX1_end 0 = .ok (.aload_n 0, 1) := dk_42 (dk_at dksX1_end_0 0 rfl rfl)
theorem dX1_end_1 : decode cX1_end 1 = .ok (.getfield 25, 3) := dk_180 0 25 (dk_at dksX1_end_0 1 rfl rfl)
theorem dX1_end_4 : decode cX1_end 4 = .ok (.iload_n 1, 1) := dk_27 (dk_at dksX1_end_0 4 rfl rfl)
theorem dX1_end_5 : decode cX1_end 5 = .ok (.invokevirtual 73, 3) := dk_182 0 73 (dk_at dksX1_end_0 5 rfl rfl)
theorem dX1_end_8 : decode cX1_end 8 = .ok (.ireturn, 1) := dk_172 (dk_at dksX1_end_0 8 rfl rfl)
abbrev cX1_fault : ByteArray := prog_1_method_5_code
def yX1_fault : MethodName := ⟨RX1, "fault", "()I"⟩
def dkwX1_fault_0 : List UInt8 := [42, 180, 0, 25, 180, 0, 77, 172]
abbrev dktX1_fault_0 : List UInt8 := dkwX1_fault_0 ++ []
theorem dksX1_fault_0 : cX1_fault.data.toList.drop 0 = dktX1_fault_0 := by decide +kernel
theorem dX1_fault_0 : decode cX1_fault 0 = .ok (.aload_n 0, 1) := dk_42 (dk_at dksX1_fault_0 0 rfl rfl)
theorem dX1_fault_1 : decode cX1_fault 1 = .ok (.getfield 25, 3) := dk_180 0 25 (dk_at dksX1_fault_0 1 rfl rfl)
theorem dX1_fault_4 : decode cX1_fault 4 = .ok (.getfield 77, 3) := dk_180 0 77 (dk_at dksX1_fault_0 4 rfl rfl)
theorem dX1_fault_7 : decode cX1_fault 7 = .ok (.ireturn, 1) := dk_172 (dk_at dksX1_fault_0 7 rfl rfl)
abbrev cX1_wrong : ByteArray := prog_1_method_61_code
def yX1_wrong : MethodName := ⟨RX1, "wrong", "()I"⟩
def dkwX1_wrong_0 : List UInt8 := [42, 180, 0, 10, 184, 1, 252, 172]
abbrev dktX1_wrong_0 : List UInt8 := dkwX1_wrong_0 ++ []
theorem dksX1_wrong_0 : cX1_wrong.data.toList.drop 0 = dktX1_wrong_0 := by decide +kernel
theorem dX1_wrong_0 : decode cX1_wrong 0 = .ok (.aload_n 0, 1) := dk_42 (dk_at dksX1_wrong_0 0 rfl rfl)
theorem dX1_wrong_1 : decode cX1_wrong 1 = .ok (.getfield 10, 3) := dk_180 0 10 (dk_at dksX1_wrong_0 1 rfl rfl)
theorem dX1_wrong_4 : decode cX1_wrong 4 = .ok (.invokestatic 508, 3) := dk_184 1 252 (dk_at dksX1_wrong_0 4 rfl rfl)
theorem dX1_wrong_7 : decode cX1_wrong 7 = .ok (.ireturn, 1) := dk_172 (dk_at dksX1_wrong_0 7 rfl rfl)
abbrev cX1_wrongOf : ByteArray := prog_1_method_59_code
def yX1_wrongOf : MethodName := ⟨RX1, "wrongOf", "(LHungFaces$World;)I"⟩
def dkwX1_wrongOf_2 : List UInt8 := [27, 172]
abbrev dktX1_wrongOf_2 : List UInt8 := dkwX1_wrongOf_2 ++ []
def dkwX1_wrongOf_1 : List UInt8 := [180, 0, 120, 28, 46, 28, 159, 0, 9, 4, 28, 120, 167, 0, 4, 3, 128, 60, 132, 2, 1, 167, 255, 215]
abbrev dktX1_wrongOf_1 : List UInt8 := dkwX1_wrongOf_1 ++ dktX1_wrongOf_2
def dkwX1_wrongOf_0 : List UInt8 := [3, 60, 3, 61, 28, 42, 180, 0, 102, 162, 0, 39, 27, 42, 180, 0, 120, 28, 46, 2, 159, 0, 19, 42]
abbrev dktX1_wrongOf_0 : List UInt8 := dkwX1_wrongOf_0 ++ dktX1_wrongOf_1
theorem dksX1_wrongOf_0 : cX1_wrongOf.data.toList.drop 0 = dktX1_wrongOf_0 := by decide +kernel
theorem dksX1_wrongOf_1 : cX1_wrongOf.data.toList.drop 24 = dktX1_wrongOf_1 := dk_seg dksX1_wrongOf_0 24 rfl rfl
theorem dksX1_wrongOf_2 : cX1_wrongOf.data.toList.drop 48 = dktX1_wrongOf_2 := dk_seg dksX1_wrongOf_1 24 rfl rfl
theorem dX1_wrongOf_0 : decode cX1_wrongOf 0 = .ok (.iconst 0, 1) := dk_3 (dk_at dksX1_wrongOf_0 0 rfl rfl)
theorem dX1_wrongOf_1 : decode cX1_wrongOf 1 = .ok (.istore_n 1, 1) := dk_60 (dk_at dksX1_wrongOf_0 1 rfl rfl)
theorem dX1_wrongOf_2 : decode cX1_wrongOf 2 = .ok (.iconst 0, 1) := dk_3 (dk_at dksX1_wrongOf_0 2 rfl rfl)
theorem dX1_wrongOf_3 : decode cX1_wrongOf 3 = .ok (.istore_n 2, 1) := dk_61 (dk_at dksX1_wrongOf_0 3 rfl rfl)
theorem dX1_wrongOf_4 : decode cX1_wrongOf 4 = .ok (.iload_n 2, 1) := dk_28 (dk_at dksX1_wrongOf_0 4 rfl rfl)
theorem dX1_wrongOf_5 : decode cX1_wrongOf 5 = .ok (.aload_n 0, 1) := dk_42 (dk_at dksX1_wrongOf_0 5 rfl rfl)
theorem dX1_wrongOf_6 : decode cX1_wrongOf 6 = .ok (.getfield 102, 3) := dk_180 0 102 (dk_at dksX1_wrongOf_0 6 rfl rfl)
theorem dX1_wrongOf_9 : decode cX1_wrongOf 9 = .ok (.if_icmp .ge 39, 3) := dk_162 0 39 (dk_at dksX1_wrongOf_0 9 rfl rfl)
theorem dX1_wrongOf_12 : decode cX1_wrongOf 12 = .ok (.iload_n 1, 1) := dk_27 (dk_at dksX1_wrongOf_0 12 rfl rfl)
theorem dX1_wrongOf_13 : decode cX1_wrongOf 13 = .ok (.aload_n 0, 1) := dk_42 (dk_at dksX1_wrongOf_0 13 rfl rfl)
theorem dX1_wrongOf_14 : decode cX1_wrongOf 14 = .ok (.getfield 120, 3) := dk_180 0 120 (dk_at dksX1_wrongOf_0 14 rfl rfl)
theorem dX1_wrongOf_17 : decode cX1_wrongOf 17 = .ok (.iload_n 2, 1) := dk_28 (dk_at dksX1_wrongOf_0 17 rfl rfl)
theorem dX1_wrongOf_18 : decode cX1_wrongOf 18 = .ok (.iaload, 1) := dk_46 (dk_at dksX1_wrongOf_0 18 rfl rfl)
theorem dX1_wrongOf_19 : decode cX1_wrongOf 19 = .ok (.iconst (-1), 1) := dk_2 (dk_at dksX1_wrongOf_0 19 rfl rfl)
theorem dX1_wrongOf_20 : decode cX1_wrongOf 20 = .ok (.if_icmp .eq 19, 3) := dk_159 0 19 (dk_at dksX1_wrongOf_0 20 rfl rfl)
theorem dX1_wrongOf_23 : decode cX1_wrongOf 23 = .ok (.aload_n 0, 1) := dk_42 (dk_at dksX1_wrongOf_0 23 rfl rfl)
theorem dX1_wrongOf_24 : decode cX1_wrongOf 24 = .ok (.getfield 120, 3) := dk_180 0 120 (dk_at dksX1_wrongOf_1 0 rfl rfl)
theorem dX1_wrongOf_27 : decode cX1_wrongOf 27 = .ok (.iload_n 2, 1) := dk_28 (dk_at dksX1_wrongOf_1 3 rfl rfl)
theorem dX1_wrongOf_28 : decode cX1_wrongOf 28 = .ok (.iaload, 1) := dk_46 (dk_at dksX1_wrongOf_1 4 rfl rfl)
theorem dX1_wrongOf_29 : decode cX1_wrongOf 29 = .ok (.iload_n 2, 1) := dk_28 (dk_at dksX1_wrongOf_1 5 rfl rfl)
theorem dX1_wrongOf_30 : decode cX1_wrongOf 30 = .ok (.if_icmp .eq 9, 3) := dk_159 0 9 (dk_at dksX1_wrongOf_1 6 rfl rfl)
theorem dX1_wrongOf_33 : decode cX1_wrongOf 33 = .ok (.iconst 1, 1) := dk_4 (dk_at dksX1_wrongOf_1 9 rfl rfl)
theorem dX1_wrongOf_34 : decode cX1_wrongOf 34 = .ok (.iload_n 2, 1) := dk_28 (dk_at dksX1_wrongOf_1 10 rfl rfl)
theorem dX1_wrongOf_35 : decode cX1_wrongOf 35 = .ok (.ishl, 1) := dk_120 (dk_at dksX1_wrongOf_1 11 rfl rfl)
theorem dX1_wrongOf_36 : decode cX1_wrongOf 36 = .ok (.goto 4, 3) := dk_167 0 4 (dk_at dksX1_wrongOf_1 12 rfl rfl)
theorem dX1_wrongOf_39 : decode cX1_wrongOf 39 = .ok (.iconst 0, 1) := dk_3 (dk_at dksX1_wrongOf_1 15 rfl rfl)
theorem dX1_wrongOf_40 : decode cX1_wrongOf 40 = .ok (.ior, 1) := dk_128 (dk_at dksX1_wrongOf_1 16 rfl rfl)
theorem dX1_wrongOf_41 : decode cX1_wrongOf 41 = .ok (.istore_n 1, 1) := dk_60 (dk_at dksX1_wrongOf_1 17 rfl rfl)
theorem dX1_wrongOf_42 : decode cX1_wrongOf 42 = .ok (.iinc 2 1, 3) := dk_132 2 1 (dk_at dksX1_wrongOf_1 18 rfl rfl)
theorem dX1_wrongOf_45 : decode cX1_wrongOf 45 = .ok (.goto (-41), 3) := dk_167 255 215 (dk_at dksX1_wrongOf_1 21 rfl rfl)
theorem dX1_wrongOf_48 : decode cX1_wrongOf 48 = .ok (.iload_n 1, 1) := dk_27 (dk_at dksX1_wrongOf_2 0 rfl rfl)
theorem dX1_wrongOf_49 : decode cX1_wrongOf 49 = .ok (.ireturn, 1) := dk_172 (dk_at dksX1_wrongOf_2 1 rfl rfl)
abbrev cX1_lost : ByteArray := prog_1_method_62_code
def yX1_lost : MethodName := ⟨RX1, "lost", "()I"⟩
def dkwX1_lost_1 : List UInt8 := [4, 28, 120, 167, 0, 4, 3, 128, 60, 132, 2, 1, 167, 255, 224, 27, 172]
abbrev dktX1_lost_1 : List UInt8 := dkwX1_lost_1 ++ []
def dkwX1_lost_0 : List UInt8 := [3, 60, 3, 61, 28, 42, 180, 0, 10, 180, 0, 102, 162, 0, 27, 27, 42, 28, 182, 1, 255, 153, 0, 9]
abbrev dktX1_lost_0 : List UInt8 := dkwX1_lost_0 ++ dktX1_lost_1
theorem dksX1_lost_0 : cX1_lost.data.toList.drop 0 = dktX1_lost_0 := by decide +kernel
theorem dksX1_lost_1 : cX1_lost.data.toList.drop 24 = dktX1_lost_1 := dk_seg dksX1_lost_0 24 rfl rfl
theorem dX1_lost_0 : decode cX1_lost 0 = .ok (.iconst 0, 1) := dk_3 (dk_at dksX1_lost_0 0 rfl rfl)
theorem dX1_lost_1 : decode cX1_lost 1 = .ok (.istore_n 1, 1) := dk_60 (dk_at dksX1_lost_0 1 rfl rfl)
theorem dX1_lost_2 : decode cX1_lost 2 = .ok (.iconst 0, 1) := dk_3 (dk_at dksX1_lost_0 2 rfl rfl)
theorem dX1_lost_3 : decode cX1_lost 3 = .ok (.istore_n 2, 1) := dk_61 (dk_at dksX1_lost_0 3 rfl rfl)
theorem dX1_lost_4 : decode cX1_lost 4 = .ok (.iload_n 2, 1) := dk_28 (dk_at dksX1_lost_0 4 rfl rfl)
theorem dX1_lost_5 : decode cX1_lost 5 = .ok (.aload_n 0, 1) := dk_42 (dk_at dksX1_lost_0 5 rfl rfl)
theorem dX1_lost_6 : decode cX1_lost 6 = .ok (.getfield 10, 3) := dk_180 0 10 (dk_at dksX1_lost_0 6 rfl rfl)
theorem dX1_lost_9 : decode cX1_lost 9 = .ok (.getfield 102, 3) := dk_180 0 102 (dk_at dksX1_lost_0 9 rfl rfl)
theorem dX1_lost_12 : decode cX1_lost 12 = .ok (.if_icmp .ge 27, 3) := dk_162 0 27 (dk_at dksX1_lost_0 12 rfl rfl)
theorem dX1_lost_15 : decode cX1_lost 15 = .ok (.iload_n 1, 1) := dk_27 (dk_at dksX1_lost_0 15 rfl rfl)
theorem dX1_lost_16 : decode cX1_lost 16 = .ok (.aload_n 0, 1) := dk_42 (dk_at dksX1_lost_0 16 rfl rfl)
theorem dX1_lost_17 : decode cX1_lost 17 = .ok (.iload_n 2, 1) := dk_28 (dk_at dksX1_lost_0 17 rfl rfl)
theorem dX1_lost_18 : decode cX1_lost 18 = .ok (.invokevirtual 511, 3) := dk_182 1 255 (dk_at dksX1_lost_0 18 rfl rfl)
theorem dX1_lost_21 : decode cX1_lost 21 = .ok (.ifCond .eq 9, 3) := dk_153 0 9 (dk_at dksX1_lost_0 21 rfl rfl)
theorem dX1_lost_24 : decode cX1_lost 24 = .ok (.iconst 1, 1) := dk_4 (dk_at dksX1_lost_1 0 rfl rfl)
theorem dX1_lost_25 : decode cX1_lost 25 = .ok (.iload_n 2, 1) := dk_28 (dk_at dksX1_lost_1 1 rfl rfl)
theorem dX1_lost_26 : decode cX1_lost 26 = .ok (.ishl, 1) := dk_120 (dk_at dksX1_lost_1 2 rfl rfl)
theorem dX1_lost_27 : decode cX1_lost 27 = .ok (.goto 4, 3) := dk_167 0 4 (dk_at dksX1_lost_1 3 rfl rfl)
theorem dX1_lost_30 : decode cX1_lost 30 = .ok (.iconst 0, 1) := dk_3 (dk_at dksX1_lost_1 6 rfl rfl)
theorem dX1_lost_31 : decode cX1_lost 31 = .ok (.ior, 1) := dk_128 (dk_at dksX1_lost_1 7 rfl rfl)
theorem dX1_lost_32 : decode cX1_lost 32 = .ok (.istore_n 1, 1) := dk_60 (dk_at dksX1_lost_1 8 rfl rfl)
theorem dX1_lost_33 : decode cX1_lost 33 = .ok (.iinc 2 1, 3) := dk_132 2 1 (dk_at dksX1_lost_1 9 rfl rfl)
theorem dX1_lost_36 : decode cX1_lost 36 = .ok (.goto (-32), 3) := dk_167 255 224 (dk_at dksX1_lost_1 12 rfl rfl)
theorem dX1_lost_39 : decode cX1_lost 39 = .ok (.iload_n 1, 1) := dk_27 (dk_at dksX1_lost_1 15 rfl rfl)
theorem dX1_lost_40 : decode cX1_lost 40 = .ok (.ireturn, 1) := dk_172 (dk_at dksX1_lost_1 16 rfl rfl)
abbrev cX1_isLost : ByteArray := prog_1_method_60_code
def yX1_isLost : MethodName := ⟨RX1, "isLost", "(I)Z"⟩
def dkwX1_isLost_1 : List UInt8 := [4, 167, 0, 4, 3, 172]
abbrev dktX1_isLost_1 : List UInt8 := dkwX1_isLost_1 ++ []
def dkwX1_isLost_0 : List UInt8 := [42, 180, 0, 10, 27, 182, 1, 170, 2, 160, 0, 19, 42, 180, 0, 10, 27, 182, 1, 179, 2, 160, 0, 7]
abbrev dktX1_isLost_0 : List UInt8 := dkwX1_isLost_0 ++ dktX1_isLost_1
theorem dksX1_isLost_0 : cX1_isLost.data.toList.drop 0 = dktX1_isLost_0 := by decide +kernel
theorem dksX1_isLost_1 : cX1_isLost.data.toList.drop 24 = dktX1_isLost_1 := dk_seg dksX1_isLost_0 24 rfl rfl
theorem dX1_isLost_0 : decode cX1_isLost 0 = .ok (.aload_n 0, 1) := dk_42 (dk_at dksX1_isLost_0 0 rfl rfl)
theorem dX1_isLost_1 : decode cX1_isLost 1 = .ok (.getfield 10, 3) := dk_180 0 10 (dk_at dksX1_isLost_0 1 rfl rfl)
theorem dX1_isLost_4 : decode cX1_isLost 4 = .ok (.iload_n 1, 1) := dk_27 (dk_at dksX1_isLost_0 4 rfl rfl)
theorem dX1_isLost_5 : decode cX1_isLost 5 = .ok (.invokevirtual 426, 3) := dk_182 1 170 (dk_at dksX1_isLost_0 5 rfl rfl)
theorem dX1_isLost_8 : decode cX1_isLost 8 = .ok (.iconst (-1), 1) := dk_2 (dk_at dksX1_isLost_0 8 rfl rfl)
theorem dX1_isLost_9 : decode cX1_isLost 9 = .ok (.if_icmp .ne 19, 3) := dk_160 0 19 (dk_at dksX1_isLost_0 9 rfl rfl)
theorem dX1_isLost_12 : decode cX1_isLost 12 = .ok (.aload_n 0, 1) := dk_42 (dk_at dksX1_isLost_0 12 rfl rfl)
theorem dX1_isLost_13 : decode cX1_isLost 13 = .ok (.getfield 10, 3) := dk_180 0 10 (dk_at dksX1_isLost_0 13 rfl rfl)
theorem dX1_isLost_16 : decode cX1_isLost 16 = .ok (.iload_n 1, 1) := dk_27 (dk_at dksX1_isLost_0 16 rfl rfl)
theorem dX1_isLost_17 : decode cX1_isLost 17 = .ok (.invokevirtual 435, 3) := dk_182 1 179 (dk_at dksX1_isLost_0 17 rfl rfl)
theorem dX1_isLost_20 : decode cX1_isLost 20 = .ok (.iconst (-1), 1) := dk_2 (dk_at dksX1_isLost_0 20 rfl rfl)
theorem dX1_isLost_21 : decode cX1_isLost 21 = .ok (.if_icmp .ne 7, 3) := dk_160 0 7 (dk_at dksX1_isLost_0 21 rfl rfl)
theorem dX1_isLost_24 : decode cX1_isLost 24 = .ok (.iconst 1, 1) := dk_4 (dk_at dksX1_isLost_1 0 rfl rfl)
theorem dX1_isLost_25 : decode cX1_isLost 25 = .ok (.goto 4, 3) := dk_167 0 4 (dk_at dksX1_isLost_1 1 rfl rfl)
theorem dX1_isLost_28 : decode cX1_isLost 28 = .ok (.iconst 0, 1) := dk_3 (dk_at dksX1_isLost_1 4 rfl rfl)
theorem dX1_isLost_29 : decode cX1_isLost 29 = .ok (.ireturn, 1) := dk_172 (dk_at dksX1_isLost_1 5 rfl rfl)
abbrev cX1_unclaimed : ByteArray := prog_1_method_63_code
def yX1_unclaimed : MethodName := ⟨RX1, "unclaimed", "()I"⟩
def dkwX1_unclaimed_2 : List UInt8 := [28, 46, 120, 167, 0, 4, 3, 128, 60, 132, 2, 1, 167, 255, 200, 27, 172]
abbrev dktX1_unclaimed_2 : List UInt8 := dkwX1_unclaimed_2 ++ []
def dkwX1_unclaimed_1 : List UInt8 := [46, 2, 159, 0, 28, 42, 180, 0, 10, 28, 182, 0, 163, 154, 0, 17, 4, 42, 180, 0, 10, 180, 0, 160]
abbrev dktX1_unclaimed_1 : List UInt8 := dkwX1_unclaimed_1 ++ dktX1_unclaimed_2
def dkwX1_unclaimed_0 : List UInt8 := [3, 60, 3, 61, 28, 42, 180, 0, 10, 180, 0, 166, 162, 0, 51, 27, 42, 180, 0, 10, 180, 0, 160, 28]
abbrev dktX1_unclaimed_0 : List UInt8 := dkwX1_unclaimed_0 ++ dktX1_unclaimed_1
theorem dksX1_unclaimed_0 : cX1_unclaimed.data.toList.drop 0 = dktX1_unclaimed_0 := by decide +kernel
theorem dksX1_unclaimed_1 : cX1_unclaimed.data.toList.drop 24 = dktX1_unclaimed_1 := dk_seg dksX1_unclaimed_0 24 rfl rfl
theorem dksX1_unclaimed_2 : cX1_unclaimed.data.toList.drop 48 = dktX1_unclaimed_2 := dk_seg dksX1_unclaimed_1 24 rfl rfl
theorem dX1_unclaimed_0 : decode cX1_unclaimed 0 = .ok (.iconst 0, 1) := dk_3 (dk_at dksX1_unclaimed_0 0 rfl rfl)
theorem dX1_unclaimed_1 : decode cX1_unclaimed 1 = .ok (.istore_n 1, 1) := dk_60 (dk_at dksX1_unclaimed_0 1 rfl rfl)
theorem dX1_unclaimed_2 : decode cX1_unclaimed 2 = .ok (.iconst 0, 1) := dk_3 (dk_at dksX1_unclaimed_0 2 rfl rfl)
theorem dX1_unclaimed_3 : decode cX1_unclaimed 3 = .ok (.istore_n 2, 1) := dk_61 (dk_at dksX1_unclaimed_0 3 rfl rfl)
theorem dX1_unclaimed_4 : decode cX1_unclaimed 4 = .ok (.iload_n 2, 1) := dk_28 (dk_at dksX1_unclaimed_0 4 rfl rfl)
theorem dX1_unclaimed_5 : decode cX1_unclaimed 5 = .ok (.aload_n 0, 1) := dk_42 (dk_at dksX1_unclaimed_0 5 rfl rfl)
theorem dX1_unclaimed_6 : decode cX1_unclaimed 6 = .ok (.getfield 10, 3) := dk_180 0 10 (dk_at dksX1_unclaimed_0 6 rfl rfl)
theorem dX1_unclaimed_9 : decode cX1_unclaimed 9 = .ok (.getfield 166, 3) := dk_180 0 166 (dk_at dksX1_unclaimed_0 9 rfl rfl)
theorem dX1_unclaimed_12 : decode cX1_unclaimed 12 = .ok (.if_icmp .ge 51, 3) := dk_162 0 51 (dk_at dksX1_unclaimed_0 12 rfl rfl)
theorem dX1_unclaimed_15 : decode cX1_unclaimed 15 = .ok (.iload_n 1, 1) := dk_27 (dk_at dksX1_unclaimed_0 15 rfl rfl)
theorem dX1_unclaimed_16 : decode cX1_unclaimed 16 = .ok (.aload_n 0, 1) := dk_42 (dk_at dksX1_unclaimed_0 16 rfl rfl)
theorem dX1_unclaimed_17 : decode cX1_unclaimed 17 = .ok (.getfield 10, 3) := dk_180 0 10 (dk_at dksX1_unclaimed_0 17 rfl rfl)
theorem dX1_unclaimed_20 : decode cX1_unclaimed 20 = .ok (.getfield 160, 3) := dk_180 0 160 (dk_at dksX1_unclaimed_0 20 rfl rfl)
theorem dX1_unclaimed_23 : decode cX1_unclaimed 23 = .ok (.iload_n 2, 1) := dk_28 (dk_at dksX1_unclaimed_0 23 rfl rfl)
theorem dX1_unclaimed_24 : decode cX1_unclaimed 24 = .ok (.iaload, 1) := dk_46 (dk_at dksX1_unclaimed_1 0 rfl rfl)
theorem dX1_unclaimed_25 : decode cX1_unclaimed 25 = .ok (.iconst (-1), 1) := dk_2 (dk_at dksX1_unclaimed_1 1 rfl rfl)
theorem dX1_unclaimed_26 : decode cX1_unclaimed 26 = .ok (.if_icmp .eq 28, 3) := dk_159 0 28 (dk_at dksX1_unclaimed_1 2 rfl rfl)
theorem dX1_unclaimed_29 : decode cX1_unclaimed 29 = .ok (.aload_n 0, 1) := dk_42 (dk_at dksX1_unclaimed_1 5 rfl rfl)
theorem dX1_unclaimed_30 : decode cX1_unclaimed 30 = .ok (.getfield 10, 3) := dk_180 0 10 (dk_at dksX1_unclaimed_1 6 rfl rfl)
theorem dX1_unclaimed_33 : decode cX1_unclaimed 33 = .ok (.iload_n 2, 1) := dk_28 (dk_at dksX1_unclaimed_1 9 rfl rfl)
theorem dX1_unclaimed_34 : decode cX1_unclaimed 34 = .ok (.invokevirtual 163, 3) := dk_182 0 163 (dk_at dksX1_unclaimed_1 10 rfl rfl)
theorem dX1_unclaimed_37 : decode cX1_unclaimed 37 = .ok (.ifCond .ne 17, 3) := dk_154 0 17 (dk_at dksX1_unclaimed_1 13 rfl rfl)
theorem dX1_unclaimed_40 : decode cX1_unclaimed 40 = .ok (.iconst 1, 1) := dk_4 (dk_at dksX1_unclaimed_1 16 rfl rfl)
theorem dX1_unclaimed_41 : decode cX1_unclaimed 41 = .ok (.aload_n 0, 1) := dk_42 (dk_at dksX1_unclaimed_1 17 rfl rfl)
theorem dX1_unclaimed_42 : decode cX1_unclaimed 42 = .ok (.getfield 10, 3) := dk_180 0 10 (dk_at dksX1_unclaimed_1 18 rfl rfl)
theorem dX1_unclaimed_45 : decode cX1_unclaimed 45 = .ok (.getfield 160, 3) := dk_180 0 160 (dk_at dksX1_unclaimed_1 21 rfl rfl)
theorem dX1_unclaimed_48 : decode cX1_unclaimed 48 = .ok (.iload_n 2, 1) := dk_28 (dk_at dksX1_unclaimed_2 0 rfl rfl)
theorem dX1_unclaimed_49 : decode cX1_unclaimed 49 = .ok (.iaload, 1) := dk_46 (dk_at dksX1_unclaimed_2 1 rfl rfl)
theorem dX1_unclaimed_50 : decode cX1_unclaimed 50 = .ok (.ishl, 1) := dk_120 (dk_at dksX1_unclaimed_2 2 rfl rfl)
theorem dX1_unclaimed_51 : decode cX1_unclaimed 51 = .ok (.goto 4, 3) := dk_167 0 4 (dk_at dksX1_unclaimed_2 3 rfl rfl)
theorem dX1_unclaimed_54 : decode cX1_unclaimed 54 = .ok (.iconst 0, 1) := dk_3 (dk_at dksX1_unclaimed_2 6 rfl rfl)
theorem dX1_unclaimed_55 : decode cX1_unclaimed 55 = .ok (.ior, 1) := dk_128 (dk_at dksX1_unclaimed_2 7 rfl rfl)
theorem dX1_unclaimed_56 : decode cX1_unclaimed 56 = .ok (.istore_n 1, 1) := dk_60 (dk_at dksX1_unclaimed_2 8 rfl rfl)
theorem dX1_unclaimed_57 : decode cX1_unclaimed 57 = .ok (.iinc 2 1, 3) := dk_132 2 1 (dk_at dksX1_unclaimed_2 9 rfl rfl)
theorem dX1_unclaimed_60 : decode cX1_unclaimed 60 = .ok (.goto (-56), 3) := dk_167 255 200 (dk_at dksX1_unclaimed_2 12 rfl rfl)
theorem dX1_unclaimed_63 : decode cX1_unclaimed 63 = .ok (.iload_n 1, 1) := dk_27 (dk_at dksX1_unclaimed_2 15 rfl rfl)
theorem dX1_unclaimed_64 : decode cX1_unclaimed 64 = .ok (.ireturn, 1) := dk_172 (dk_at dksX1_unclaimed_2 16 rfl rfl)
abbrev cX1_swaps : ByteArray := prog_1_method_66_code
def yX1_swaps : MethodName := ⟨RX1, "swaps", "()I"⟩
def dkwX1_swaps_2 : List UInt8 := [182, 2, 5, 153, 0, 7, 4, 167, 0, 4, 3, 100, 60, 132, 2, 1, 167, 255, 197, 27, 172]
abbrev dktX1_swaps_2 : List UInt8 := dkwX1_swaps_2 ++ []
def dkwX1_swaps_1 : List UInt8 := [42, 180, 0, 10, 180, 0, 120, 28, 46, 28, 159, 0, 7, 4, 167, 0, 4, 3, 96, 60, 27, 42, 28]
abbrev dktX1_swaps_1 : List UInt8 := dkwX1_swaps_1 ++ dktX1_swaps_2
def dkwX1_swaps_0 : List UInt8 := [3, 60, 3, 61, 28, 42, 180, 0, 10, 180, 0, 102, 162, 0, 54, 27, 42, 28, 182, 1, 255, 154, 0, 20]
abbrev dktX1_swaps_0 : List UInt8 := dkwX1_swaps_0 ++ dktX1_swaps_1
theorem dksX1_swaps_0 : cX1_swaps.data.toList.drop 0 = dktX1_swaps_0 := by decide +kernel
theorem dksX1_swaps_1 : cX1_swaps.data.toList.drop 24 = dktX1_swaps_1 := dk_seg dksX1_swaps_0 24 rfl rfl
theorem dksX1_swaps_2 : cX1_swaps.data.toList.drop 47 = dktX1_swaps_2 := dk_seg dksX1_swaps_1 23 rfl rfl
theorem dX1_swaps_0 : decode cX1_swaps 0 = .ok (.iconst 0, 1) := dk_3 (dk_at dksX1_swaps_0 0 rfl rfl)
theorem dX1_swaps_1 : decode cX1_swaps 1 = .ok (.istore_n 1, 1) := dk_60 (dk_at dksX1_swaps_0 1 rfl rfl)
theorem dX1_swaps_2 : decode cX1_swaps 2 = .ok (.iconst 0, 1) := dk_3 (dk_at dksX1_swaps_0 2 rfl rfl)
theorem dX1_swaps_3 : decode cX1_swaps 3 = .ok (.istore_n 2, 1) := dk_61 (dk_at dksX1_swaps_0 3 rfl rfl)
theorem dX1_swaps_4 : decode cX1_swaps 4 = .ok (.iload_n 2, 1) := dk_28 (dk_at dksX1_swaps_0 4 rfl rfl)
theorem dX1_swaps_5 : decode cX1_swaps 5 = .ok (.aload_n 0, 1) := dk_42 (dk_at dksX1_swaps_0 5 rfl rfl)
theorem dX1_swaps_6 : decode cX1_swaps 6 = .ok (.getfield 10, 3) := dk_180 0 10 (dk_at dksX1_swaps_0 6 rfl rfl)
theorem dX1_swaps_9 : decode cX1_swaps 9 = .ok (.getfield 102, 3) := dk_180 0 102 (dk_at dksX1_swaps_0 9 rfl rfl)
theorem dX1_swaps_12 : decode cX1_swaps 12 = .ok (.if_icmp .ge 54, 3) := dk_162 0 54 (dk_at dksX1_swaps_0 12 rfl rfl)
theorem dX1_swaps_15 : decode cX1_swaps 15 = .ok (.iload_n 1, 1) := dk_27 (dk_at dksX1_swaps_0 15 rfl rfl)
theorem dX1_swaps_16 : decode cX1_swaps 16 = .ok (.aload_n 0, 1) := dk_42 (dk_at dksX1_swaps_0 16 rfl rfl)
theorem dX1_swaps_17 : decode cX1_swaps 17 = .ok (.iload_n 2, 1) := dk_28 (dk_at dksX1_swaps_0 17 rfl rfl)
theorem dX1_swaps_18 : decode cX1_swaps 18 = .ok (.invokevirtual 511, 3) := dk_182 1 255 (dk_at dksX1_swaps_0 18 rfl rfl)
theorem dX1_swaps_21 : decode cX1_swaps 21 = .ok (.ifCond .ne 20, 3) := dk_154 0 20 (dk_at dksX1_swaps_0 21 rfl rfl)
theorem dX1_swaps_24 : decode cX1_swaps 24 = .ok (.aload_n 0, 1) := dk_42 (dk_at dksX1_swaps_1 0 rfl rfl)
theorem dX1_swaps_25 : decode cX1_swaps 25 = .ok (.getfield 10, 3) := dk_180 0 10 (dk_at dksX1_swaps_1 1 rfl rfl)
theorem dX1_swaps_28 : decode cX1_swaps 28 = .ok (.getfield 120, 3) := dk_180 0 120 (dk_at dksX1_swaps_1 4 rfl rfl)
theorem dX1_swaps_31 : decode cX1_swaps 31 = .ok (.iload_n 2, 1) := dk_28 (dk_at dksX1_swaps_1 7 rfl rfl)
theorem dX1_swaps_32 : decode cX1_swaps 32 = .ok (.iaload, 1) := dk_46 (dk_at dksX1_swaps_1 8 rfl rfl)
theorem dX1_swaps_33 : decode cX1_swaps 33 = .ok (.iload_n 2, 1) := dk_28 (dk_at dksX1_swaps_1 9 rfl rfl)
theorem dX1_swaps_34 : decode cX1_swaps 34 = .ok (.if_icmp .eq 7, 3) := dk_159 0 7 (dk_at dksX1_swaps_1 10 rfl rfl)
theorem dX1_swaps_37 : decode cX1_swaps 37 = .ok (.iconst 1, 1) := dk_4 (dk_at dksX1_swaps_1 13 rfl rfl)
theorem dX1_swaps_38 : decode cX1_swaps 38 = .ok (.goto 4, 3) := dk_167 0 4 (dk_at dksX1_swaps_1 14 rfl rfl)
theorem dX1_swaps_41 : decode cX1_swaps 41 = .ok (.iconst 0, 1) := dk_3 (dk_at dksX1_swaps_1 17 rfl rfl)
theorem dX1_swaps_42 : decode cX1_swaps 42 = .ok (.iadd, 1) := dk_96 (dk_at dksX1_swaps_1 18 rfl rfl)
theorem dX1_swaps_43 : decode cX1_swaps 43 = .ok (.istore_n 1, 1) := dk_60 (dk_at dksX1_swaps_1 19 rfl rfl)
theorem dX1_swaps_44 : decode cX1_swaps 44 = .ok (.iload_n 1, 1) := dk_27 (dk_at dksX1_swaps_1 20 rfl rfl)
theorem dX1_swaps_45 : decode cX1_swaps 45 = .ok (.aload_n 0, 1) := dk_42 (dk_at dksX1_swaps_1 21 rfl rfl)
theorem dX1_swaps_46 : decode cX1_swaps 46 = .ok (.iload_n 2, 1) := dk_28 (dk_at dksX1_swaps_1 22 rfl rfl)
theorem dX1_swaps_47 : decode cX1_swaps 47 = .ok (.invokevirtual 517, 3) := dk_182 2 5 (dk_at dksX1_swaps_2 0 rfl rfl)
theorem dX1_swaps_50 : decode cX1_swaps 50 = .ok (.ifCond .eq 7, 3) := dk_153 0 7 (dk_at dksX1_swaps_2 3 rfl rfl)
theorem dX1_swaps_53 : decode cX1_swaps 53 = .ok (.iconst 1, 1) := dk_4 (dk_at dksX1_swaps_2 6 rfl rfl)
theorem dX1_swaps_54 : decode cX1_swaps 54 = .ok (.goto 4, 3) := dk_167 0 4 (dk_at dksX1_swaps_2 7 rfl rfl)
theorem dX1_swaps_57 : decode cX1_swaps 57 = .ok (.iconst 0, 1) := dk_3 (dk_at dksX1_swaps_2 10 rfl rfl)
theorem dX1_swaps_58 : decode cX1_swaps 58 = .ok (.isub, 1) := dk_100 (dk_at dksX1_swaps_2 11 rfl rfl)
theorem dX1_swaps_59 : decode cX1_swaps 59 = .ok (.istore_n 1, 1) := dk_60 (dk_at dksX1_swaps_2 12 rfl rfl)
theorem dX1_swaps_60 : decode cX1_swaps 60 = .ok (.iinc 2 1, 3) := dk_132 2 1 (dk_at dksX1_swaps_2 13 rfl rfl)
theorem dX1_swaps_63 : decode cX1_swaps 63 = .ok (.goto (-59), 3) := dk_167 255 197 (dk_at dksX1_swaps_2 16 rfl rfl)
theorem dX1_swaps_66 : decode cX1_swaps 66 = .ok (.iload_n 1, 1) := dk_27 (dk_at dksX1_swaps_2 19 rfl rfl)
theorem dX1_swaps_67 : decode cX1_swaps 67 = .ok (.ireturn, 1) := dk_172 (dk_at dksX1_swaps_2 20 rfl rfl)
abbrev cX1_begins : ByteArray := prog_1_method_64_code
def yX1_begins : MethodName := ⟨RX1, "begins", "(I)Z"⟩
def dkwX1_begins_1 : List UInt8 := [182, 2, 2, 153, 0, 7, 4, 167, 0, 4, 3, 172]
abbrev dktX1_begins_1 : List UInt8 := dkwX1_begins_1 ++ []
def dkwX1_begins_0 : List UInt8 := [42, 27, 182, 1, 176, 61, 28, 184, 1, 121, 4, 164, 0, 23, 28, 184, 1, 164, 27, 160, 0, 15, 42, 27]
abbrev dktX1_begins_0 : List UInt8 := dkwX1_begins_0 ++ dktX1_begins_1
theorem dksX1_begins_0 : cX1_begins.data.toList.drop 0 = dktX1_begins_0 := by decide +kernel
theorem dksX1_begins_1 : cX1_begins.data.toList.drop 24 = dktX1_begins_1 := dk_seg dksX1_begins_0 24 rfl rfl
theorem dX1_begins_0 : decode cX1_begins 0 = .ok (.aload_n 0, 1) := dk_42 (dk_at dksX1_begins_0 0 rfl rfl)
theorem dX1_begins_1 : decode cX1_begins 1 = .ok (.iload_n 1, 1) := dk_27 (dk_at dksX1_begins_0 1 rfl rfl)
theorem dX1_begins_2 : decode cX1_begins 2 = .ok (.invokevirtual 432, 3) := dk_182 1 176 (dk_at dksX1_begins_0 2 rfl rfl)
theorem dX1_begins_5 : decode cX1_begins 5 = .ok (.istore_n 2, 1) := dk_61 (dk_at dksX1_begins_0 5 rfl rfl)
theorem dX1_begins_6 : decode cX1_begins 6 = .ok (.iload_n 2, 1) := dk_28 (dk_at dksX1_begins_0 6 rfl rfl)
theorem dX1_begins_7 : decode cX1_begins 7 = .ok (.invokestatic 377, 3) := dk_184 1 121 (dk_at dksX1_begins_0 7 rfl rfl)
theorem dX1_begins_10 : decode cX1_begins 10 = .ok (.iconst 1, 1) := dk_4 (dk_at dksX1_begins_0 10 rfl rfl)
theorem dX1_begins_11 : decode cX1_begins 11 = .ok (.if_icmp .le 23, 3) := dk_164 0 23 (dk_at dksX1_begins_0 11 rfl rfl)
theorem dX1_begins_14 : decode cX1_begins 14 = .ok (.iload_n 2, 1) := dk_28 (dk_at dksX1_begins_0 14 rfl rfl)
theorem dX1_begins_15 : decode cX1_begins 15 = .ok (.invokestatic 420, 3) := dk_184 1 164 (dk_at dksX1_begins_0 15 rfl rfl)
theorem dX1_begins_18 : decode cX1_begins 18 = .ok (.iload_n 1, 1) := dk_27 (dk_at dksX1_begins_0 18 rfl rfl)
theorem dX1_begins_19 : decode cX1_begins 19 = .ok (.if_icmp .ne 15, 3) := dk_160 0 15 (dk_at dksX1_begins_0 19 rfl rfl)
theorem dX1_begins_22 : decode cX1_begins 22 = .ok (.aload_n 0, 1) := dk_42 (dk_at dksX1_begins_0 22 rfl rfl)
theorem dX1_begins_23 : decode cX1_begins 23 = .ok (.iload_n 1, 1) := dk_27 (dk_at dksX1_begins_0 23 rfl rfl)
theorem dX1_begins_24 : decode cX1_begins 24 = .ok (.invokevirtual 514, 3) := dk_182 2 2 (dk_at dksX1_begins_1 0 rfl rfl)
theorem dX1_begins_27 : decode cX1_begins 27 = .ok (.ifCond .eq 7, 3) := dk_153 0 7 (dk_at dksX1_begins_1 3 rfl rfl)
theorem dX1_begins_30 : decode cX1_begins 30 = .ok (.iconst 1, 1) := dk_4 (dk_at dksX1_begins_1 6 rfl rfl)
theorem dX1_begins_31 : decode cX1_begins 31 = .ok (.goto 4, 3) := dk_167 0 4 (dk_at dksX1_begins_1 7 rfl rfl)
theorem dX1_begins_34 : decode cX1_begins 34 = .ok (.iconst 0, 1) := dk_3 (dk_at dksX1_begins_1 10 rfl rfl)
theorem dX1_begins_35 : decode cX1_begins 35 = .ok (.ireturn, 1) := dk_172 (dk_at dksX1_begins_1 11 rfl rfl)
abbrev cX1_ringOf : ByteArray := prog_1_method_38_code
def yX1_ringOf : MethodName := ⟨RX1, "ringOf", "(I)I"⟩
def dkwX1_ringOf_1 : List UInt8 := [180, 0, 10, 29, 182, 1, 170, 62, 167, 255, 228, 28, 172]
abbrev dktX1_ringOf_1 : List UInt8 := dkwX1_ringOf_1 ++ []
def dkwX1_ringOf_0 : List UInt8 := [3, 61, 27, 62, 29, 2, 159, 0, 29, 28, 29, 184, 1, 167, 154, 0, 21, 28, 4, 29, 120, 128, 61, 42]
abbrev dktX1_ringOf_0 : List UInt8 := dkwX1_ringOf_0 ++ dktX1_ringOf_1
theorem dksX1_ringOf_0 : cX1_ringOf.data.toList.drop 0 = dktX1_ringOf_0 := by decide +kernel
theorem dksX1_ringOf_1 : cX1_ringOf.data.toList.drop 24 = dktX1_ringOf_1 := dk_seg dksX1_ringOf_0 24 rfl rfl
theorem dX1_ringOf_0 : decode cX1_ringOf 0 = .ok (.iconst 0, 1) := dk_3 (dk_at dksX1_ringOf_0 0 rfl rfl)
theorem dX1_ringOf_1 : decode cX1_ringOf 1 = .ok (.istore_n 2, 1) := dk_61 (dk_at dksX1_ringOf_0 1 rfl rfl)
theorem dX1_ringOf_2 : decode cX1_ringOf 2 = .ok (.iload_n 1, 1) := dk_27 (dk_at dksX1_ringOf_0 2 rfl rfl)
theorem dX1_ringOf_3 : decode cX1_ringOf 3 = .ok (.istore_n 3, 1) := dk_62 (dk_at dksX1_ringOf_0 3 rfl rfl)
theorem dX1_ringOf_4 : decode cX1_ringOf 4 = .ok (.iload_n 3, 1) := dk_29 (dk_at dksX1_ringOf_0 4 rfl rfl)
theorem dX1_ringOf_5 : decode cX1_ringOf 5 = .ok (.iconst (-1), 1) := dk_2 (dk_at dksX1_ringOf_0 5 rfl rfl)
theorem dX1_ringOf_6 : decode cX1_ringOf 6 = .ok (.if_icmp .eq 29, 3) := dk_159 0 29 (dk_at dksX1_ringOf_0 6 rfl rfl)
theorem dX1_ringOf_9 : decode cX1_ringOf 9 = .ok (.iload_n 2, 1) := dk_28 (dk_at dksX1_ringOf_0 9 rfl rfl)
theorem dX1_ringOf_10 : decode cX1_ringOf 10 = .ok (.iload_n 3, 1) := dk_29 (dk_at dksX1_ringOf_0 10 rfl rfl)
theorem dX1_ringOf_11 : decode cX1_ringOf 11 = .ok (.invokestatic 423, 3) := dk_184 1 167 (dk_at dksX1_ringOf_0 11 rfl rfl)
theorem dX1_ringOf_14 : decode cX1_ringOf 14 = .ok (.ifCond .ne 21, 3) := dk_154 0 21 (dk_at dksX1_ringOf_0 14 rfl rfl)
theorem dX1_ringOf_17 : decode cX1_ringOf 17 = .ok (.iload_n 2, 1) := dk_28 (dk_at dksX1_ringOf_0 17 rfl rfl)
theorem dX1_ringOf_18 : decode cX1_ringOf 18 = .ok (.iconst 1, 1) := dk_4 (dk_at dksX1_ringOf_0 18 rfl rfl)
theorem dX1_ringOf_19 : decode cX1_ringOf 19 = .ok (.iload_n 3, 1) := dk_29 (dk_at dksX1_ringOf_0 19 rfl rfl)
theorem dX1_ringOf_20 : decode cX1_ringOf 20 = .ok (.ishl, 1) := dk_120 (dk_at dksX1_ringOf_0 20 rfl rfl)
theorem dX1_ringOf_21 : decode cX1_ringOf 21 = .ok (.ior, 1) := dk_128 (dk_at dksX1_ringOf_0 21 rfl rfl)
theorem dX1_ringOf_22 : decode cX1_ringOf 22 = .ok (.istore_n 2, 1) := dk_61 (dk_at dksX1_ringOf_0 22 rfl rfl)
theorem dX1_ringOf_23 : decode cX1_ringOf 23 = .ok (.aload_n 0, 1) := dk_42 (dk_at dksX1_ringOf_0 23 rfl rfl)
theorem dX1_ringOf_24 : decode cX1_ringOf 24 = .ok (.getfield 10, 3) := dk_180 0 10 (dk_at dksX1_ringOf_1 0 rfl rfl)
theorem dX1_ringOf_27 : decode cX1_ringOf 27 = .ok (.iload_n 3, 1) := dk_29 (dk_at dksX1_ringOf_1 3 rfl rfl)
theorem dX1_ringOf_28 : decode cX1_ringOf 28 = .ok (.invokevirtual 426, 3) := dk_182 1 170 (dk_at dksX1_ringOf_1 4 rfl rfl)
theorem dX1_ringOf_31 : decode cX1_ringOf 31 = .ok (.istore_n 3, 1) := dk_62 (dk_at dksX1_ringOf_1 7 rfl rfl)
theorem dX1_ringOf_32 : decode cX1_ringOf 32 = .ok (.goto (-28), 3) := dk_167 255 228 (dk_at dksX1_ringOf_1 8 rfl rfl)
theorem dX1_ringOf_35 : decode cX1_ringOf 35 = .ok (.iload_n 2, 1) := dk_28 (dk_at dksX1_ringOf_1 11 rfl rfl)
theorem dX1_ringOf_36 : decode cX1_ringOf 36 = .ok (.ireturn, 1) := dk_172 (dk_at dksX1_ringOf_1 12 rfl rfl)
abbrev cX1_has : ByteArray := prog_1_method_36_code
def yX1_has : MethodName := ⟨RX1, "has", "(II)Z"⟩
def dkwX1_has_0 : List UInt8 := [26, 27, 122, 4, 126, 4, 160, 0, 7, 4, 167, 0, 4, 3, 172]
abbrev dktX1_has_0 : List UInt8 := dkwX1_has_0 ++ []
theorem dksX1_has_0 : cX1_has.data.toList.drop 0 = dktX1_has_0 := by decide +kernel
theorem dX1_has_0 : decode cX1_has 0 = .ok (.iload_n 0, 1) := dk_26 (dk_at dksX1_has_0 0 rfl rfl)
theorem dX1_has_1 : decode cX1_has 1 = .ok (.iload_n 1, 1) := dk_27 (dk_at dksX1_has_0 1 rfl rfl)
theorem dX1_has_2 : decode cX1_has 2 = .ok (.ishr, 1) := dk_122 (dk_at dksX1_has_0 2 rfl rfl)
theorem dX1_has_3 : decode cX1_has 3 = .ok (.iconst 1, 1) := dk_4 (dk_at dksX1_has_0 3 rfl rfl)
theorem dX1_has_4 : decode cX1_has 4 = .ok (.iand, 1) := dk_126 (dk_at dksX1_has_0 4 rfl rfl)
theorem dX1_has_5 : decode cX1_has 5 = .ok (.iconst 1, 1) := dk_4 (dk_at dksX1_has_0 5 rfl rfl)
theorem dX1_has_6 : decode cX1_has 6 = .ok (.if_icmp .ne 7, 3) := dk_160 0 7 (dk_at dksX1_has_0 6 rfl rfl)
theorem dX1_has_9 : decode cX1_has 9 = .ok (.iconst 1, 1) := dk_4 (dk_at dksX1_has_0 9 rfl rfl)
theorem dX1_has_10 : decode cX1_has 10 = .ok (.goto 4, 3) := dk_167 0 4 (dk_at dksX1_has_0 10 rfl rfl)
theorem dX1_has_13 : decode cX1_has 13 = .ok (.iconst 0, 1) := dk_3 (dk_at dksX1_has_0 13 rfl rfl)
theorem dX1_has_14 : decode cX1_has 14 = .ok (.ireturn, 1) := dk_172 (dk_at dksX1_has_0 14 rfl rfl)
abbrev cX1_isClosed : ByteArray := prog_1_method_65_code
def yX1_isClosed : MethodName := ⟨RX1, "isClosed", "(I)Z"⟩
def dkwX1_isClosed_1 : List UInt8 := [160, 0, 5, 4, 172, 42, 180, 0, 10, 28, 182, 1, 170, 61, 132, 3, 1, 167, 255, 226, 3, 172]
abbrev dktX1_isClosed_1 : List UInt8 := dkwX1_isClosed_1 ++ []
def dkwX1_isClosed_0 : List UInt8 := [42, 180, 0, 10, 27, 182, 1, 170, 61, 3, 62, 29, 16, 10, 162, 0, 30, 28, 2, 159, 0, 25, 28, 27]
abbrev dktX1_isClosed_0 : List UInt8 := dkwX1_isClosed_0 ++ dktX1_isClosed_1
theorem dksX1_isClosed_0 : cX1_isClosed.data.toList.drop 0 = dktX1_isClosed_0 := by decide +kernel
theorem dksX1_isClosed_1 : cX1_isClosed.data.toList.drop 24 = dktX1_isClosed_1 := dk_seg dksX1_isClosed_0 24 rfl rfl
theorem dX1_isClosed_0 : decode cX1_isClosed 0 = .ok (.aload_n 0, 1) := dk_42 (dk_at dksX1_isClosed_0 0 rfl rfl)
theorem dX1_isClosed_1 : decode cX1_isClosed 1 = .ok (.getfield 10, 3) := dk_180 0 10 (dk_at dksX1_isClosed_0 1 rfl rfl)
theorem dX1_isClosed_4 : decode cX1_isClosed 4 = .ok (.iload_n 1, 1) := dk_27 (dk_at dksX1_isClosed_0 4 rfl rfl)
theorem dX1_isClosed_5 : decode cX1_isClosed 5 = .ok (.invokevirtual 426, 3) := dk_182 1 170 (dk_at dksX1_isClosed_0 5 rfl rfl)
theorem dX1_isClosed_8 : decode cX1_isClosed 8 = .ok (.istore_n 2, 1) := dk_61 (dk_at dksX1_isClosed_0 8 rfl rfl)
theorem dX1_isClosed_9 : decode cX1_isClosed 9 = .ok (.iconst 0, 1) := dk_3 (dk_at dksX1_isClosed_0 9 rfl rfl)
theorem dX1_isClosed_10 : decode cX1_isClosed 10 = .ok (.istore_n 3, 1) := dk_62 (dk_at dksX1_isClosed_0 10 rfl rfl)
theorem dX1_isClosed_11 : decode cX1_isClosed 11 = .ok (.iload_n 3, 1) := dk_29 (dk_at dksX1_isClosed_0 11 rfl rfl)
theorem dX1_isClosed_12 : decode cX1_isClosed 12 = .ok (.bipush 10, 2) := dk_16 10 (dk_at dksX1_isClosed_0 12 rfl rfl)
theorem dX1_isClosed_14 : decode cX1_isClosed 14 = .ok (.if_icmp .ge 30, 3) := dk_162 0 30 (dk_at dksX1_isClosed_0 14 rfl rfl)
theorem dX1_isClosed_17 : decode cX1_isClosed 17 = .ok (.iload_n 2, 1) := dk_28 (dk_at dksX1_isClosed_0 17 rfl rfl)
theorem dX1_isClosed_18 : decode cX1_isClosed 18 = .ok (.iconst (-1), 1) := dk_2 (dk_at dksX1_isClosed_0 18 rfl rfl)
theorem dX1_isClosed_19 : decode cX1_isClosed 19 = .ok (.if_icmp .eq 25, 3) := dk_159 0 25 (dk_at dksX1_isClosed_0 19 rfl rfl)
theorem dX1_isClosed_22 : decode cX1_isClosed 22 = .ok (.iload_n 2, 1) := dk_28 (dk_at dksX1_isClosed_0 22 rfl rfl)
theorem dX1_isClosed_23 : decode cX1_isClosed 23 = .ok (.iload_n 1, 1) := dk_27 (dk_at dksX1_isClosed_0 23 rfl rfl)
theorem dX1_isClosed_24 : decode cX1_isClosed 24 = .ok (.if_icmp .ne 5, 3) := dk_160 0 5 (dk_at dksX1_isClosed_1 0 rfl rfl)
theorem dX1_isClosed_27 : decode cX1_isClosed 27 = .ok (.iconst 1, 1) := dk_4 (dk_at dksX1_isClosed_1 3 rfl rfl)
theorem dX1_isClosed_28 : decode cX1_isClosed 28 = .ok (.ireturn, 1) := dk_172 (dk_at dksX1_isClosed_1 4 rfl rfl)
theorem dX1_isClosed_29 : decode cX1_isClosed 29 = .ok (.aload_n 0, 1) := dk_42 (dk_at dksX1_isClosed_1 5 rfl rfl)
theorem dX1_isClosed_30 : decode cX1_isClosed 30 = .ok (.getfield 10, 3) := dk_180 0 10 (dk_at dksX1_isClosed_1 6 rfl rfl)
theorem dX1_isClosed_33 : decode cX1_isClosed 33 = .ok (.iload_n 2, 1) := dk_28 (dk_at dksX1_isClosed_1 9 rfl rfl)
theorem dX1_isClosed_34 : decode cX1_isClosed 34 = .ok (.invokevirtual 426, 3) := dk_182 1 170 (dk_at dksX1_isClosed_1 10 rfl rfl)
theorem dX1_isClosed_37 : decode cX1_isClosed 37 = .ok (.istore_n 2, 1) := dk_61 (dk_at dksX1_isClosed_1 13 rfl rfl)
theorem dX1_isClosed_38 : decode cX1_isClosed 38 = .ok (.iinc 3 1, 3) := dk_132 3 1 (dk_at dksX1_isClosed_1 14 rfl rfl)
theorem dX1_isClosed_41 : decode cX1_isClosed 41 = .ok (.goto (-30), 3) := dk_167 255 226 (dk_at dksX1_isClosed_1 17 rfl rfl)
theorem dX1_isClosed_44 : decode cX1_isClosed 44 = .ok (.iconst 0, 1) := dk_3 (dk_at dksX1_isClosed_1 20 rfl rfl)
theorem dX1_isClosed_45 : decode cX1_isClosed 45 = .ok (.ireturn, 1) := dk_172 (dk_at dksX1_isClosed_1 21 rfl rfl)
abbrev cX1_saved : ByteArray := prog_1_method_67_code
def yX1_saved : MethodName := ⟨RX1, "saved", "()I"⟩
def dkwX1_saved_3 : List UInt8 := [27, 172]
abbrev dktX1_saved_3 : List UInt8 := dkwX1_saved_3 ++ []
def dkwX1_saved_2 : List UInt8 := [180, 0, 120, 29, 46, 28, 160, 0, 9, 4, 28, 120, 167, 0, 4, 3, 128, 60, 132, 2, 1, 167, 255, 191]
abbrev dktX1_saved_2 : List UInt8 := dkwX1_saved_2 ++ dktX1_saved_3
def dkwX1_saved_1 : List UInt8 := [62, 27, 29, 2, 159, 0, 35, 42, 180, 0, 10, 180, 0, 120, 28, 46, 29, 160, 0, 22, 42, 180, 0, 10]
abbrev dktX1_saved_1 : List UInt8 := dkwX1_saved_1 ++ dktX1_saved_2
def dkwX1_saved_0 : List UInt8 := [3, 60, 3, 61, 28, 42, 180, 0, 10, 180, 0, 102, 162, 0, 60, 42, 180, 0, 10, 180, 0, 126, 28, 46]
abbrev dktX1_saved_0 : List UInt8 := dkwX1_saved_0 ++ dktX1_saved_1
theorem dksX1_saved_0 : cX1_saved.data.toList.drop 0 = dktX1_saved_0 := by decide +kernel
theorem dksX1_saved_1 : cX1_saved.data.toList.drop 24 = dktX1_saved_1 := dk_seg dksX1_saved_0 24 rfl rfl
theorem dksX1_saved_2 : cX1_saved.data.toList.drop 48 = dktX1_saved_2 := dk_seg dksX1_saved_1 24 rfl rfl
theorem dksX1_saved_3 : cX1_saved.data.toList.drop 72 = dktX1_saved_3 := dk_seg dksX1_saved_2 24 rfl rfl
theorem dX1_saved_0 : decode cX1_saved 0 = .ok (.iconst 0, 1) := dk_3 (dk_at dksX1_saved_0 0 rfl rfl)
theorem dX1_saved_1 : decode cX1_saved 1 = .ok (.istore_n 1, 1) := dk_60 (dk_at dksX1_saved_0 1 rfl rfl)
theorem dX1_saved_2 : decode cX1_saved 2 = .ok (.iconst 0, 1) := dk_3 (dk_at dksX1_saved_0 2 rfl rfl)
theorem dX1_saved_3 : decode cX1_saved 3 = .ok (.istore_n 2, 1) := dk_61 (dk_at dksX1_saved_0 3 rfl rfl)
theorem dX1_saved_4 : decode cX1_saved 4 = .ok (.iload_n 2, 1) := dk_28 (dk_at dksX1_saved_0 4 rfl rfl)
theorem dX1_saved_5 : decode cX1_saved 5 = .ok (.aload_n 0, 1) := dk_42 (dk_at dksX1_saved_0 5 rfl rfl)
theorem dX1_saved_6 : decode cX1_saved 6 = .ok (.getfield 10, 3) := dk_180 0 10 (dk_at dksX1_saved_0 6 rfl rfl)
theorem dX1_saved_9 : decode cX1_saved 9 = .ok (.getfield 102, 3) := dk_180 0 102 (dk_at dksX1_saved_0 9 rfl rfl)
theorem dX1_saved_12 : decode cX1_saved 12 = .ok (.if_icmp .ge 60, 3) := dk_162 0 60 (dk_at dksX1_saved_0 12 rfl rfl)
theorem dX1_saved_15 : decode cX1_saved 15 = .ok (.aload_n 0, 1) := dk_42 (dk_at dksX1_saved_0 15 rfl rfl)
theorem dX1_saved_16 : decode cX1_saved 16 = .ok (.getfield 10, 3) := dk_180 0 10 (dk_at dksX1_saved_0 16 rfl rfl)
theorem dX1_saved_19 : decode cX1_saved 19 = .ok (.getfield 126, 3) := dk_180 0 126 (dk_at dksX1_saved_0 19 rfl rfl)
theorem dX1_saved_22 : decode cX1_saved 22 = .ok (.iload_n 2, 1) := dk_28 (dk_at dksX1_saved_0 22 rfl rfl)
theorem dX1_saved_23 : decode cX1_saved 23 = .ok (.iaload, 1) := dk_46 (dk_at dksX1_saved_0 23 rfl rfl)
theorem dX1_saved_24 : decode cX1_saved 24 = .ok (.istore_n 3, 1) := dk_62 (dk_at dksX1_saved_1 0 rfl rfl)
theorem dX1_saved_25 : decode cX1_saved 25 = .ok (.iload_n 1, 1) := dk_27 (dk_at dksX1_saved_1 1 rfl rfl)
theorem dX1_saved_26 : decode cX1_saved 26 = .ok (.iload_n 3, 1) := dk_29 (dk_at dksX1_saved_1 2 rfl rfl)
theorem dX1_saved_27 : decode cX1_saved 27 = .ok (.iconst (-1), 1) := dk_2 (dk_at dksX1_saved_1 3 rfl rfl)
theorem dX1_saved_28 : decode cX1_saved 28 = .ok (.if_icmp .eq 35, 3) := dk_159 0 35 (dk_at dksX1_saved_1 4 rfl rfl)
theorem dX1_saved_31 : decode cX1_saved 31 = .ok (.aload_n 0, 1) := dk_42 (dk_at dksX1_saved_1 7 rfl rfl)
theorem dX1_saved_32 : decode cX1_saved 32 = .ok (.getfield 10, 3) := dk_180 0 10 (dk_at dksX1_saved_1 8 rfl rfl)
theorem dX1_saved_35 : decode cX1_saved 35 = .ok (.getfield 120, 3) := dk_180 0 120 (dk_at dksX1_saved_1 11 rfl rfl)
theorem dX1_saved_38 : decode cX1_saved 38 = .ok (.iload_n 2, 1) := dk_28 (dk_at dksX1_saved_1 14 rfl rfl)
theorem dX1_saved_39 : decode cX1_saved 39 = .ok (.iaload, 1) := dk_46 (dk_at dksX1_saved_1 15 rfl rfl)
theorem dX1_saved_40 : decode cX1_saved 40 = .ok (.iload_n 3, 1) := dk_29 (dk_at dksX1_saved_1 16 rfl rfl)
theorem dX1_saved_41 : decode cX1_saved 41 = .ok (.if_icmp .ne 22, 3) := dk_160 0 22 (dk_at dksX1_saved_1 17 rfl rfl)
theorem dX1_saved_44 : decode cX1_saved 44 = .ok (.aload_n 0, 1) := dk_42 (dk_at dksX1_saved_1 20 rfl rfl)
theorem dX1_saved_45 : decode cX1_saved 45 = .ok (.getfield 10, 3) := dk_180 0 10 (dk_at dksX1_saved_1 21 rfl rfl)
theorem dX1_saved_48 : decode cX1_saved 48 = .ok (.getfield 120, 3) := dk_180 0 120 (dk_at dksX1_saved_2 0 rfl rfl)
theorem dX1_saved_51 : decode cX1_saved 51 = .ok (.iload_n 3, 1) := dk_29 (dk_at dksX1_saved_2 3 rfl rfl)
theorem dX1_saved_52 : decode cX1_saved 52 = .ok (.iaload, 1) := dk_46 (dk_at dksX1_saved_2 4 rfl rfl)
theorem dX1_saved_53 : decode cX1_saved 53 = .ok (.iload_n 2, 1) := dk_28 (dk_at dksX1_saved_2 5 rfl rfl)
theorem dX1_saved_54 : decode cX1_saved 54 = .ok (.if_icmp .ne 9, 3) := dk_160 0 9 (dk_at dksX1_saved_2 6 rfl rfl)
theorem dX1_saved_57 : decode cX1_saved 57 = .ok (.iconst 1, 1) := dk_4 (dk_at dksX1_saved_2 9 rfl rfl)
theorem dX1_saved_58 : decode cX1_saved 58 = .ok (.iload_n 2, 1) := dk_28 (dk_at dksX1_saved_2 10 rfl rfl)
theorem dX1_saved_59 : decode cX1_saved 59 = .ok (.ishl, 1) := dk_120 (dk_at dksX1_saved_2 11 rfl rfl)
theorem dX1_saved_60 : decode cX1_saved 60 = .ok (.goto 4, 3) := dk_167 0 4 (dk_at dksX1_saved_2 12 rfl rfl)
theorem dX1_saved_63 : decode cX1_saved 63 = .ok (.iconst 0, 1) := dk_3 (dk_at dksX1_saved_2 15 rfl rfl)
theorem dX1_saved_64 : decode cX1_saved 64 = .ok (.ior, 1) := dk_128 (dk_at dksX1_saved_2 16 rfl rfl)
theorem dX1_saved_65 : decode cX1_saved 65 = .ok (.istore_n 1, 1) := dk_60 (dk_at dksX1_saved_2 17 rfl rfl)
theorem dX1_saved_66 : decode cX1_saved 66 = .ok (.iinc 2 1, 3) := dk_132 2 1 (dk_at dksX1_saved_2 18 rfl rfl)
theorem dX1_saved_69 : decode cX1_saved 69 = .ok (.goto (-65), 3) := dk_167 255 191 (dk_at dksX1_saved_2 21 rfl rfl)
theorem dX1_saved_72 : decode cX1_saved 72 = .ok (.iload_n 1, 1) := dk_27 (dk_at dksX1_saved_3 0 rfl rfl)
theorem dX1_saved_73 : decode cX1_saved 73 = .ok (.ireturn, 1) := dk_172 (dk_at dksX1_saved_3 1 rfl rfl)
abbrev cX1_marks : ByteArray := prog_1_method_69_code
def yX1_marks : MethodName := ⟨RX1, "marks", "()I"⟩
def dkwX1_marks_2 : List UInt8 := [167, 255, 228, 27, 172]
abbrev dktX1_marks_2 : List UInt8 := dkwX1_marks_2 ++ []
def dkwX1_marks_1 : List UInt8 := [28, 184, 1, 121, 27, 184, 1, 121, 163, 0, 13, 42, 28, 182, 2, 7, 153, 0, 5, 28, 60, 132, 2, 255]
abbrev dktX1_marks_1 : List UInt8 := dkwX1_marks_1 ++ dktX1_marks_2
def dkwX1_marks_0 : List UInt8 := [42, 17, 0, 255, 182, 2, 7, 154, 0, 5, 2, 172, 17, 0, 255, 60, 17, 0, 255, 61, 28, 155, 0, 30]
abbrev dktX1_marks_0 : List UInt8 := dkwX1_marks_0 ++ dktX1_marks_1
theorem dksX1_marks_0 : cX1_marks.data.toList.drop 0 = dktX1_marks_0 := by decide +kernel
theorem dksX1_marks_1 : cX1_marks.data.toList.drop 24 = dktX1_marks_1 := dk_seg dksX1_marks_0 24 rfl rfl
theorem dksX1_marks_2 : cX1_marks.data.toList.drop 48 = dktX1_marks_2 := dk_seg dksX1_marks_1 24 rfl rfl
theorem dX1_marks_0 : decode cX1_marks 0 = .ok (.aload_n 0, 1) := dk_42 (dk_at dksX1_marks_0 0 rfl rfl)
theorem dX1_marks_1 : decode cX1_marks 1 = .ok (.sipush 255, 3) := dk_17 0 255 (dk_at dksX1_marks_0 1 rfl rfl)
theorem dX1_marks_4 : decode cX1_marks 4 = .ok (.invokevirtual 519, 3) := dk_182 2 7 (dk_at dksX1_marks_0 4 rfl rfl)
theorem dX1_marks_7 : decode cX1_marks 7 = .ok (.ifCond .ne 5, 3) := dk_154 0 5 (dk_at dksX1_marks_0 7 rfl rfl)
theorem dX1_marks_10 : decode cX1_marks 10 = .ok (.iconst (-1), 1) := dk_2 (dk_at dksX1_marks_0 10 rfl rfl)
theorem dX1_marks_11 : decode cX1_marks 11 = .ok (.ireturn, 1) := dk_172 (dk_at dksX1_marks_0 11 rfl rfl)
theorem dX1_marks_12 : decode cX1_marks 12 = .ok (.sipush 255, 3) := dk_17 0 255 (dk_at dksX1_marks_0 12 rfl rfl)
theorem dX1_marks_15 : decode cX1_marks 15 = .ok (.istore_n 1, 1) := dk_60 (dk_at dksX1_marks_0 15 rfl rfl)
theorem dX1_marks_16 : decode cX1_marks 16 = .ok (.sipush 255, 3) := dk_17 0 255 (dk_at dksX1_marks_0 16 rfl rfl)
theorem dX1_marks_19 : decode cX1_marks 19 = .ok (.istore_n 2, 1) := dk_61 (dk_at dksX1_marks_0 19 rfl rfl)
theorem dX1_marks_20 : decode cX1_marks 20 = .ok (.iload_n 2, 1) := dk_28 (dk_at dksX1_marks_0 20 rfl rfl)
theorem dX1_marks_21 : decode cX1_marks 21 = .ok (.ifCond .lt 30, 3) := dk_155 0 30 (dk_at dksX1_marks_0 21 rfl rfl)
theorem dX1_marks_24 : decode cX1_marks 24 = .ok (.iload_n 2, 1) := dk_28 (dk_at dksX1_marks_1 0 rfl rfl)
theorem dX1_marks_25 : decode cX1_marks 25 = .ok (.invokestatic 377, 3) := dk_184 1 121 (dk_at dksX1_marks_1 1 rfl rfl)
theorem dX1_marks_28 : decode cX1_marks 28 = .ok (.iload_n 1, 1) := dk_27 (dk_at dksX1_marks_1 4 rfl rfl)
theorem dX1_marks_29 : decode cX1_marks 29 = .ok (.invokestatic 377, 3) := dk_184 1 121 (dk_at dksX1_marks_1 5 rfl rfl)
theorem dX1_marks_32 : decode cX1_marks 32 = .ok (.if_icmp .gt 13, 3) := dk_163 0 13 (dk_at dksX1_marks_1 8 rfl rfl)
theorem dX1_marks_35 : decode cX1_marks 35 = .ok (.aload_n 0, 1) := dk_42 (dk_at dksX1_marks_1 11 rfl rfl)
theorem dX1_marks_36 : decode cX1_marks 36 = .ok (.iload_n 2, 1) := dk_28 (dk_at dksX1_marks_1 12 rfl rfl)
theorem dX1_marks_37 : decode cX1_marks 37 = .ok (.invokevirtual 519, 3) := dk_182 2 7 (dk_at dksX1_marks_1 13 rfl rfl)
theorem dX1_marks_40 : decode cX1_marks 40 = .ok (.ifCond .eq 5, 3) := dk_153 0 5 (dk_at dksX1_marks_1 16 rfl rfl)
theorem dX1_marks_43 : decode cX1_marks 43 = .ok (.iload_n 2, 1) := dk_28 (dk_at dksX1_marks_1 19 rfl rfl)
theorem dX1_marks_44 : decode cX1_marks 44 = .ok (.istore_n 1, 1) := dk_60 (dk_at dksX1_marks_1 20 rfl rfl)
theorem dX1_marks_45 : decode cX1_marks 45 = .ok (.iinc 2 (-1), 3) := dk_132 2 255 (dk_at dksX1_marks_1 21 rfl rfl)
theorem dX1_marks_48 : decode cX1_marks 48 = .ok (.goto (-28), 3) := dk_167 255 228 (dk_at dksX1_marks_2 0 rfl rfl)
theorem dX1_marks_51 : decode cX1_marks 51 = .ok (.iload_n 1, 1) := dk_27 (dk_at dksX1_marks_2 3 rfl rfl)
theorem dX1_marks_52 : decode cX1_marks 52 = .ok (.ireturn, 1) := dk_172 (dk_at dksX1_marks_2 4 rfl rfl)
abbrev cX1_areUnlike : ByteArray := prog_1_method_68_code
def yX1_areUnlike : MethodName := ⟨RX1, "areUnlike", "(I)Z"⟩
def dkwX1_areUnlike_2 : List UInt8 := [132, 3, 1, 167, 255, 222, 132, 2, 1, 167, 255, 203, 4, 172]
abbrev dktX1_areUnlike_2 : List UInt8 := dkwX1_areUnlike_2 ++ []
def dkwX1_areUnlike_1 : List UInt8 := [180, 0, 109, 28, 46, 42, 180, 0, 10, 180, 0, 109, 29, 46, 130, 27, 126, 154, 0, 5, 3, 172]
abbrev dktX1_areUnlike_1 : List UInt8 := dkwX1_areUnlike_1 ++ dktX1_areUnlike_2
def dkwX1_areUnlike_0 : List UInt8 := [3, 61, 28, 42, 180, 0, 10, 180, 0, 102, 162, 0, 48, 3, 62, 29, 28, 162, 0, 35, 42, 180, 0, 10]
abbrev dktX1_areUnlike_0 : List UInt8 := dkwX1_areUnlike_0 ++ dktX1_areUnlike_1
theorem dksX1_areUnlike_0 : cX1_areUnlike.data.toList.drop 0 = dktX1_areUnlike_0 := by decide +kernel
theorem dksX1_areUnlike_1 : cX1_areUnlike.data.toList.drop 24 = dktX1_areUnlike_1 := dk_seg dksX1_areUnlike_0 24 rfl rfl
theorem dksX1_areUnlike_2 : cX1_areUnlike.data.toList.drop 46 = dktX1_areUnlike_2 := dk_seg dksX1_areUnlike_1 22 rfl rfl
theorem dX1_areUnlike_0 : decode cX1_areUnlike 0 = .ok (.iconst 0, 1) := dk_3 (dk_at dksX1_areUnlike_0 0 rfl rfl)
theorem dX1_areUnlike_1 : decode cX1_areUnlike 1 = .ok (.istore_n 2, 1) := dk_61 (dk_at dksX1_areUnlike_0 1 rfl rfl)
theorem dX1_areUnlike_2 : decode cX1_areUnlike 2 = .ok (.iload_n 2, 1) := dk_28 (dk_at dksX1_areUnlike_0 2 rfl rfl)
theorem dX1_areUnlike_3 : decode cX1_areUnlike 3 = .ok (.aload_n 0, 1) := dk_42 (dk_at dksX1_areUnlike_0 3 rfl rfl)
theorem dX1_areUnlike_4 : decode cX1_areUnlike 4 = .ok (.getfield 10, 3) := dk_180 0 10 (dk_at dksX1_areUnlike_0 4 rfl rfl)
theorem dX1_areUnlike_7 : decode cX1_areUnlike 7 = .ok (.getfield 102, 3) := dk_180 0 102 (dk_at dksX1_areUnlike_0 7 rfl rfl)
theorem dX1_areUnlike_10 : decode cX1_areUnlike 10 = .ok (.if_icmp .ge 48, 3) := dk_162 0 48 (dk_at dksX1_areUnlike_0 10 rfl rfl)
theorem dX1_areUnlike_13 : decode cX1_areUnlike 13 = .ok (.iconst 0, 1) := dk_3 (dk_at dksX1_areUnlike_0 13 rfl rfl)
theorem dX1_areUnlike_14 : decode cX1_areUnlike 14 = .ok (.istore_n 3, 1) := dk_62 (dk_at dksX1_areUnlike_0 14 rfl rfl)
theorem dX1_areUnlike_15 : decode cX1_areUnlike 15 = .ok (.iload_n 3, 1) := dk_29 (dk_at dksX1_areUnlike_0 15 rfl rfl)
theorem dX1_areUnlike_16 : decode cX1_areUnlike 16 = .ok (.iload_n 2, 1) := dk_28 (dk_at dksX1_areUnlike_0 16 rfl rfl)
theorem dX1_areUnlike_17 : decode cX1_areUnlike 17 = .ok (.if_icmp .ge 35, 3) := dk_162 0 35 (dk_at dksX1_areUnlike_0 17 rfl rfl)
theorem dX1_areUnlike_20 : decode cX1_areUnlike 20 = .ok (.aload_n 0, 1) := dk_42 (dk_at dksX1_areUnlike_0 20 rfl rfl)
theorem dX1_areUnlike_21 : decode cX1_areUnlike 21 = .ok (.getfield 10, 3) := dk_180 0 10 (dk_at dksX1_areUnlike_0 21 rfl rfl)
theorem dX1_areUnlike_24 : decode cX1_areUnlike 24 = .ok (.getfield 109, 3) := dk_180 0 109 (dk_at dksX1_areUnlike_1 0 rfl rfl)
theorem dX1_areUnlike_27 : decode cX1_areUnlike 27 = .ok (.iload_n 2, 1) := dk_28 (dk_at dksX1_areUnlike_1 3 rfl rfl)
theorem dX1_areUnlike_28 : decode cX1_areUnlike 28 = .ok (.iaload, 1) := dk_46 (dk_at dksX1_areUnlike_1 4 rfl rfl)
theorem dX1_areUnlike_29 : decode cX1_areUnlike 29 = .ok (.aload_n 0, 1) := dk_42 (dk_at dksX1_areUnlike_1 5 rfl rfl)
theorem dX1_areUnlike_30 : decode cX1_areUnlike 30 = .ok (.getfield 10, 3) := dk_180 0 10 (dk_at dksX1_areUnlike_1 6 rfl rfl)
theorem dX1_areUnlike_33 : decode cX1_areUnlike 33 = .ok (.getfield 109, 3) := dk_180 0 109 (dk_at dksX1_areUnlike_1 9 rfl rfl)
theorem dX1_areUnlike_36 : decode cX1_areUnlike 36 = .ok (.iload_n 3, 1) := dk_29 (dk_at dksX1_areUnlike_1 12 rfl rfl)
theorem dX1_areUnlike_37 : decode cX1_areUnlike 37 = .ok (.iaload, 1) := dk_46 (dk_at dksX1_areUnlike_1 13 rfl rfl)
theorem dX1_areUnlike_38 : decode cX1_areUnlike 38 = .ok (.ixor, 1) := dk_130 (dk_at dksX1_areUnlike_1 14 rfl rfl)
theorem dX1_areUnlike_39 : decode cX1_areUnlike 39 = .ok (.iload_n 1, 1) := dk_27 (dk_at dksX1_areUnlike_1 15 rfl rfl)
theorem dX1_areUnlike_40 : decode cX1_areUnlike 40 = .ok (.iand, 1) := dk_126 (dk_at dksX1_areUnlike_1 16 rfl rfl)
theorem dX1_areUnlike_41 : decode cX1_areUnlike 41 = .ok (.ifCond .ne 5, 3) := dk_154 0 5 (dk_at dksX1_areUnlike_1 17 rfl rfl)
theorem dX1_areUnlike_44 : decode cX1_areUnlike 44 = .ok (.iconst 0, 1) := dk_3 (dk_at dksX1_areUnlike_1 20 rfl rfl)
theorem dX1_areUnlike_45 : decode cX1_areUnlike 45 = .ok (.ireturn, 1) := dk_172 (dk_at dksX1_areUnlike_1 21 rfl rfl)
theorem dX1_areUnlike_46 : decode cX1_areUnlike 46 = .ok (.iinc 3 1, 3) := dk_132 3 1 (dk_at dksX1_areUnlike_2 0 rfl rfl)
theorem dX1_areUnlike_49 : decode cX1_areUnlike 49 = .ok (.goto (-34), 3) := dk_167 255 222 (dk_at dksX1_areUnlike_2 3 rfl rfl)
theorem dX1_areUnlike_52 : decode cX1_areUnlike 52 = .ok (.iinc 2 1, 3) := dk_132 2 1 (dk_at dksX1_areUnlike_2 6 rfl rfl)
theorem dX1_areUnlike_55 : decode cX1_areUnlike 55 = .ok (.goto (-53), 3) := dk_167 255 203 (dk_at dksX1_areUnlike_2 9 rfl rfl)
theorem dX1_areUnlike_58 : decode cX1_areUnlike 58 = .ok (.iconst 1, 1) := dk_4 (dk_at dksX1_areUnlike_2 12 rfl rfl)
theorem dX1_areUnlike_59 : decode cX1_areUnlike 59 = .ok (.ireturn, 1) := dk_172 (dk_at dksX1_areUnlike_2 13 rfl rfl)
abbrev cX1_unknown : ByteArray := prog_1_method_70_code
def yX1_unknown : MethodName := ⟨RX1, "unknown", "()I"⟩
def dkwX1_unknown_3 : List UInt8 := [167, 255, 206, 132, 2, 1, 167, 255, 187, 27, 172]
abbrev dktX1_unknown_3 : List UInt8 := dkwX1_unknown_3 ++ []
def dkwX1_unknown_2 : List UInt8 := [180, 0, 10, 180, 0, 117, 29, 46, 160, 0, 9, 4, 28, 120, 167, 0, 4, 3, 128, 60, 132, 3, 1]
abbrev dktX1_unknown_2 : List UInt8 := dkwX1_unknown_2 ++ dktX1_unknown_3
def dkwX1_unknown_1 : List UInt8 := [180, 0, 102, 162, 0, 45, 27, 28, 29, 159, 0, 30, 42, 180, 0, 10, 180, 0, 117, 28, 46, 42]
abbrev dktX1_unknown_1 : List UInt8 := dkwX1_unknown_1 ++ dktX1_unknown_2
def dkwX1_unknown_0 : List UInt8 := [3, 60, 3, 61, 28, 42, 180, 0, 10, 180, 0, 102, 162, 0, 64, 3, 62, 29, 42, 180, 0, 10]
abbrev dktX1_unknown_0 : List UInt8 := dkwX1_unknown_0 ++ dktX1_unknown_1
theorem dksX1_unknown_0 : cX1_unknown.data.toList.drop 0 = dktX1_unknown_0 := by decide +kernel
theorem dksX1_unknown_1 : cX1_unknown.data.toList.drop 22 = dktX1_unknown_1 := dk_seg dksX1_unknown_0 22 rfl rfl
theorem dksX1_unknown_2 : cX1_unknown.data.toList.drop 44 = dktX1_unknown_2 := dk_seg dksX1_unknown_1 22 rfl rfl
theorem dksX1_unknown_3 : cX1_unknown.data.toList.drop 67 = dktX1_unknown_3 := dk_seg dksX1_unknown_2 23 rfl rfl
theorem dX1_unknown_0 : decode cX1_unknown 0 = .ok (.iconst 0, 1) := dk_3 (dk_at dksX1_unknown_0 0 rfl rfl)
theorem dX1_unknown_1 : decode cX1_unknown 1 = .ok (.istore_n 1, 1) := dk_60 (dk_at dksX1_unknown_0 1 rfl rfl)
theorem dX1_unknown_2 : decode cX1_unknown 2 = .ok (.iconst 0, 1) := dk_3 (dk_at dksX1_unknown_0 2 rfl rfl)
theorem dX1_unknown_3 : decode cX1_unknown 3 = .ok (.istore_n 2, 1) := dk_61 (dk_at dksX1_unknown_0 3 rfl rfl)
theorem dX1_unknown_4 : decode cX1_unknown 4 = .ok (.iload_n 2, 1) := dk_28 (dk_at dksX1_unknown_0 4 rfl rfl)
theorem dX1_unknown_5 : decode cX1_unknown 5 = .ok (.aload_n 0, 1) := dk_42 (dk_at dksX1_unknown_0 5 rfl rfl)
theorem dX1_unknown_6 : decode cX1_unknown 6 = .ok (.getfield 10, 3) := dk_180 0 10 (dk_at dksX1_unknown_0 6 rfl rfl)
theorem dX1_unknown_9 : decode cX1_unknown 9 = .ok (.getfield 102, 3) := dk_180 0 102 (dk_at dksX1_unknown_0 9 rfl rfl)
theorem dX1_unknown_12 : decode cX1_unknown 12 = .ok (.if_icmp .ge 64, 3) := dk_162 0 64 (dk_at dksX1_unknown_0 12 rfl rfl)
theorem dX1_unknown_15 : decode cX1_unknown 15 = .ok (.iconst 0, 1) := dk_3 (dk_at dksX1_unknown_0 15 rfl rfl)
theorem dX1_unknown_16 : decode cX1_unknown 16 = .ok (.istore_n 3, 1) := dk_62 (dk_at dksX1_unknown_0 16 rfl rfl)
theorem dX1_unknown_17 : decode cX1_unknown 17 = .ok (.iload_n 3, 1) := dk_29 (dk_at dksX1_unknown_0 17 rfl rfl)
theorem dX1_unknown_18 : decode cX1_unknown 18 = .ok (.aload_n 0, 1) := dk_42 (dk_at dksX1_unknown_0 18 rfl rfl)
theorem dX1_unknown_19 : decode cX1_unknown 19 = .ok (.getfield 10, 3) := dk_180 0 10 (dk_at dksX1_unknown_0 19 rfl rfl)
theorem dX1_unknown_22 : decode cX1_unknown 22 = .ok (.getfield 102, 3) := dk_180 0 102 (dk_at dksX1_unknown_1 0 rfl rfl)
theorem dX1_unknown_25 : decode cX1_unknown 25 = .ok (.if_icmp .ge 45, 3) := dk_162 0 45 (dk_at dksX1_unknown_1 3 rfl rfl)
theorem dX1_unknown_28 : decode cX1_unknown 28 = .ok (.iload_n 1, 1) := dk_27 (dk_at dksX1_unknown_1 6 rfl rfl)
theorem dX1_unknown_29 : decode cX1_unknown 29 = .ok (.iload_n 2, 1) := dk_28 (dk_at dksX1_unknown_1 7 rfl rfl)
theorem dX1_unknown_30 : decode cX1_unknown 30 = .ok (.iload_n 3, 1) := dk_29 (dk_at dksX1_unknown_1 8 rfl rfl)
theorem dX1_unknown_31 : decode cX1_unknown 31 = .ok (.if_icmp .eq 30, 3) := dk_159 0 30 (dk_at dksX1_unknown_1 9 rfl rfl)
theorem dX1_unknown_34 : decode cX1_unknown 34 = .ok (.aload_n 0, 1) := dk_42 (dk_at dksX1_unknown_1 12 rfl rfl)
theorem dX1_unknown_35 : decode cX1_unknown 35 = .ok (.getfield 10, 3) := dk_180 0 10 (dk_at dksX1_unknown_1 13 rfl rfl)
theorem dX1_unknown_38 : decode cX1_unknown 38 = .ok (.getfield 117, 3) := dk_180 0 117 (dk_at dksX1_unknown_1 16 rfl rfl)
theorem dX1_unknown_41 : decode cX1_unknown 41 = .ok (.iload_n 2, 1) := dk_28 (dk_at dksX1_unknown_1 19 rfl rfl)
theorem dX1_unknown_42 : decode cX1_unknown 42 = .ok (.iaload, 1) := dk_46 (dk_at dksX1_unknown_1 20 rfl rfl)
theorem dX1_unknown_43 : decode cX1_unknown 43 = .ok (.aload_n 0, 1) := dk_42 (dk_at dksX1_unknown_1 21 rfl rfl)
theorem dX1_unknown_44 : decode cX1_unknown 44 = .ok (.getfield 10, 3) := dk_180 0 10 (dk_at dksX1_unknown_2 0 rfl rfl)
theorem dX1_unknown_47 : decode cX1_unknown 47 = .ok (.getfield 117, 3) := dk_180 0 117 (dk_at dksX1_unknown_2 3 rfl rfl)
theorem dX1_unknown_50 : decode cX1_unknown 50 = .ok (.iload_n 3, 1) := dk_29 (dk_at dksX1_unknown_2 6 rfl rfl)
theorem dX1_unknown_51 : decode cX1_unknown 51 = .ok (.iaload, 1) := dk_46 (dk_at dksX1_unknown_2 7 rfl rfl)
theorem dX1_unknown_52 : decode cX1_unknown 52 = .ok (.if_icmp .ne 9, 3) := dk_160 0 9 (dk_at dksX1_unknown_2 8 rfl rfl)
theorem dX1_unknown_55 : decode cX1_unknown 55 = .ok (.iconst 1, 1) := dk_4 (dk_at dksX1_unknown_2 11 rfl rfl)
theorem dX1_unknown_56 : decode cX1_unknown 56 = .ok (.iload_n 2, 1) := dk_28 (dk_at dksX1_unknown_2 12 rfl rfl)
theorem dX1_unknown_57 : decode cX1_unknown 57 = .ok (.ishl, 1) := dk_120 (dk_at dksX1_unknown_2 13 rfl rfl)
theorem dX1_unknown_58 : decode cX1_unknown 58 = .ok (.goto 4, 3) := dk_167 0 4 (dk_at dksX1_unknown_2 14 rfl rfl)
theorem dX1_unknown_61 : decode cX1_unknown 61 = .ok (.iconst 0, 1) := dk_3 (dk_at dksX1_unknown_2 17 rfl rfl)
theorem dX1_unknown_62 : decode cX1_unknown 62 = .ok (.ior, 1) := dk_128 (dk_at dksX1_unknown_2 18 rfl rfl)
theorem dX1_unknown_63 : decode cX1_unknown 63 = .ok (.istore_n 1, 1) := dk_60 (dk_at dksX1_unknown_2 19 rfl rfl)
theorem dX1_unknown_64 : decode cX1_unknown 64 = .ok (.iinc 3 1, 3) := dk_132 3 1 (dk_at dksX1_unknown_2 20 rfl rfl)
theorem dX1_unknown_67 : decode cX1_unknown 67 = .ok (.goto (-50), 3) := dk_167 255 206 (dk_at dksX1_unknown_3 0 rfl rfl)
theorem dX1_unknown_70 : decode cX1_unknown 70 = .ok (.iinc 2 1, 3) := dk_132 2 1 (dk_at dksX1_unknown_3 3 rfl rfl)
theorem dX1_unknown_73 : decode cX1_unknown 73 = .ok (.goto (-69), 3) := dk_167 255 187 (dk_at dksX1_unknown_3 6 rfl rfl)
theorem dX1_unknown_76 : decode cX1_unknown 76 = .ok (.iload_n 1, 1) := dk_27 (dk_at dksX1_unknown_3 9 rfl rfl)
theorem dX1_unknown_77 : decode cX1_unknown 77 = .ok (.ireturn, 1) := dk_172 (dk_at dksX1_unknown_3 10 rfl rfl)
abbrev cX1_gains : ByteArray := prog_1_method_73_code
def yX1_gains : MethodName := ⟨RX1, "gains", "()I"⟩
def dkwX1_gains_2 : List UInt8 := [167, 0, 4, 3, 96, 60, 132, 2, 1, 167, 255, 213, 27, 172]
abbrev dktX1_gains_2 : List UInt8 := dkwX1_gains_2 ++ []
def dkwX1_gains_1 : List UInt8 := [42, 180, 0, 48, 180, 2, 14, 28, 46, 42, 180, 0, 10, 180, 0, 120, 28, 46, 159, 0, 7, 4]
abbrev dktX1_gains_1 : List UInt8 := dkwX1_gains_1 ++ dktX1_gains_2
def dkwX1_gains_0 : List UInt8 := [42, 180, 0, 48, 182, 2, 10, 87, 3, 60, 3, 61, 28, 42, 180, 0, 10, 180, 0, 102, 162, 0, 38, 27]
abbrev dktX1_gains_0 : List UInt8 := dkwX1_gains_0 ++ dktX1_gains_1
theorem dksX1_gains_0 : cX1_gains.data.toList.drop 0 = dktX1_gains_0 := by decide +kernel
theorem dksX1_gains_1 : cX1_gains.data.toList.drop 24 = dktX1_gains_1 := dk_seg dksX1_gains_0 24 rfl rfl
theorem dksX1_gains_2 : cX1_gains.data.toList.drop 46 = dktX1_gains_2 := dk_seg dksX1_gains_1 22 rfl rfl
theorem dX1_gains_0 : decode cX1_gains 0 = .ok (.aload_n 0, 1) := dk_42 (dk_at dksX1_gains_0 0 rfl rfl)
theorem dX1_gains_1 : decode cX1_gains 1 = .ok (.getfield 48, 3) := dk_180 0 48 (dk_at dksX1_gains_0 1 rfl rfl)
theorem dX1_gains_4 : decode cX1_gains 4 = .ok (.invokevirtual 522, 3) := dk_182 2 10 (dk_at dksX1_gains_0 4 rfl rfl)
theorem dX1_gains_7 : decode cX1_gains 7 = .ok (.pop, 1) := dk_87 (dk_at dksX1_gains_0 7 rfl rfl)
theorem dX1_gains_8 : decode cX1_gains 8 = .ok (.iconst 0, 1) := dk_3 (dk_at dksX1_gains_0 8 rfl rfl)
theorem dX1_gains_9 : decode cX1_gains 9 = .ok (.istore_n 1, 1) := dk_60 (dk_at dksX1_gains_0 9 rfl rfl)
theorem dX1_gains_10 : decode cX1_gains 10 = .ok (.iconst 0, 1) := dk_3 (dk_at dksX1_gains_0 10 rfl rfl)
theorem dX1_gains_11 : decode cX1_gains 11 = .ok (.istore_n 2, 1) := dk_61 (dk_at dksX1_gains_0 11 rfl rfl)
theorem dX1_gains_12 : decode cX1_gains 12 = .ok (.iload_n 2, 1) := dk_28 (dk_at dksX1_gains_0 12 rfl rfl)
theorem dX1_gains_13 : decode cX1_gains 13 = .ok (.aload_n 0, 1) := dk_42 (dk_at dksX1_gains_0 13 rfl rfl)
theorem dX1_gains_14 : decode cX1_gains 14 = .ok (.getfield 10, 3) := dk_180 0 10 (dk_at dksX1_gains_0 14 rfl rfl)
theorem dX1_gains_17 : decode cX1_gains 17 = .ok (.getfield 102, 3) := dk_180 0 102 (dk_at dksX1_gains_0 17 rfl rfl)
theorem dX1_gains_20 : decode cX1_gains 20 = .ok (.if_icmp .ge 38, 3) := dk_162 0 38 (dk_at dksX1_gains_0 20 rfl rfl)
theorem dX1_gains_23 : decode cX1_gains 23 = .ok (.iload_n 1, 1) := dk_27 (dk_at dksX1_gains_0 23 rfl rfl)
theorem dX1_gains_24 : decode cX1_gains 24 = .ok (.aload_n 0, 1) := dk_42 (dk_at dksX1_gains_1 0 rfl rfl)
theorem dX1_gains_25 : decode cX1_gains 25 = .ok (.getfield 48, 3) := dk_180 0 48 (dk_at dksX1_gains_1 1 rfl rfl)
theorem dX1_gains_28 : decode cX1_gains 28 = .ok (.getfield 526, 3) := dk_180 2 14 (dk_at dksX1_gains_1 4 rfl rfl)
theorem dX1_gains_31 : decode cX1_gains 31 = .ok (.iload_n 2, 1) := dk_28 (dk_at dksX1_gains_1 7 rfl rfl)
theorem dX1_gains_32 : decode cX1_gains 32 = .ok (.iaload, 1) := dk_46 (dk_at dksX1_gains_1 8 rfl rfl)
theorem dX1_gains_33 : decode cX1_gains 33 = .ok (.aload_n 0, 1) := dk_42 (dk_at dksX1_gains_1 9 rfl rfl)
theorem dX1_gains_34 : decode cX1_gains 34 = .ok (.getfield 10, 3) := dk_180 0 10 (dk_at dksX1_gains_1 10 rfl rfl)
theorem dX1_gains_37 : decode cX1_gains 37 = .ok (.getfield 120, 3) := dk_180 0 120 (dk_at dksX1_gains_1 13 rfl rfl)
theorem dX1_gains_40 : decode cX1_gains 40 = .ok (.iload_n 2, 1) := dk_28 (dk_at dksX1_gains_1 16 rfl rfl)
theorem dX1_gains_41 : decode cX1_gains 41 = .ok (.iaload, 1) := dk_46 (dk_at dksX1_gains_1 17 rfl rfl)
theorem dX1_gains_42 : decode cX1_gains 42 = .ok (.if_icmp .eq 7, 3) := dk_159 0 7 (dk_at dksX1_gains_1 18 rfl rfl)
theorem dX1_gains_45 : decode cX1_gains 45 = .ok (.iconst 1, 1) := dk_4 (dk_at dksX1_gains_1 21 rfl rfl)
theorem dX1_gains_46 : decode cX1_gains 46 = .ok (.goto 4, 3) := dk_167 0 4 (dk_at dksX1_gains_2 0 rfl rfl)
theorem dX1_gains_49 : decode cX1_gains 49 = .ok (.iconst 0, 1) := dk_3 (dk_at dksX1_gains_2 3 rfl rfl)
theorem dX1_gains_50 : decode cX1_gains 50 = .ok (.iadd, 1) := dk_96 (dk_at dksX1_gains_2 4 rfl rfl)
theorem dX1_gains_51 : decode cX1_gains 51 = .ok (.istore_n 1, 1) := dk_60 (dk_at dksX1_gains_2 5 rfl rfl)
theorem dX1_gains_52 : decode cX1_gains 52 = .ok (.iinc 2 1, 3) := dk_132 2 1 (dk_at dksX1_gains_2 6 rfl rfl)
theorem dX1_gains_55 : decode cX1_gains 55 = .ok (.goto (-43), 3) := dk_167 255 213 (dk_at dksX1_gains_2 9 rfl rfl)
theorem dX1_gains_58 : decode cX1_gains 58 = .ok (.iload_n 1, 1) := dk_27 (dk_at dksX1_gains_2 12 rfl rfl)
theorem dX1_gains_59 : decode cX1_gains 59 = .ok (.ireturn, 1) := dk_172 (dk_at dksX1_gains_2 13 rfl rfl)
abbrev cX1_queue : ByteArray := prog_1_method_82_code
def yX1_queue : MethodName := ⟨RX1, "queue", "(I)I"⟩
def dkwX1_queue_2 : List UInt8 := [167, 0, 4, 2, 172]
abbrev dktX1_queue_2 : List UInt8 := dkwX1_queue_2 ++ []
def dkwX1_queue_1 : List UInt8 := [3, 42, 180, 0, 62, 180, 2, 63, 4, 100, 184, 0, 91, 153, 0, 14, 42, 180, 0, 62, 27, 182, 2, 65]
abbrev dktX1_queue_1 : List UInt8 := dkwX1_queue_1 ++ dktX1_queue_2
def dkwX1_queue_0 : List UInt8 := [42, 180, 0, 62, 182, 2, 57, 87, 27, 2, 160, 0, 13, 42, 180, 0, 62, 3, 2, 182, 2, 60, 172, 27]
abbrev dktX1_queue_0 : List UInt8 := dkwX1_queue_0 ++ dktX1_queue_1
theorem dksX1_queue_0 : cX1_queue.data.toList.drop 0 = dktX1_queue_0 := by decide +kernel
theorem dksX1_queue_1 : cX1_queue.data.toList.drop 24 = dktX1_queue_1 := dk_seg dksX1_queue_0 24 rfl rfl
theorem dksX1_queue_2 : cX1_queue.data.toList.drop 48 = dktX1_queue_2 := dk_seg dksX1_queue_1 24 rfl rfl
theorem dX1_queue_0 : decode cX1_queue 0 = .ok (.aload_n 0, 1) := dk_42 (dk_at dksX1_queue_0 0 rfl rfl)
theorem dX1_queue_1 : decode cX1_queue 1 = .ok (.getfield 62, 3) := dk_180 0 62 (dk_at dksX1_queue_0 1 rfl rfl)
theorem dX1_queue_4 : decode cX1_queue 4 = .ok (.invokevirtual 569, 3) := dk_182 2 57 (dk_at dksX1_queue_0 4 rfl rfl)
theorem dX1_queue_7 : decode cX1_queue 7 = .ok (.pop, 1) := dk_87 (dk_at dksX1_queue_0 7 rfl rfl)
theorem dX1_queue_8 : decode cX1_queue 8 = .ok (.iload_n 1, 1) := dk_27 (dk_at dksX1_queue_0 8 rfl rfl)
theorem dX1_queue_9 : decode cX1_queue 9 = .ok (.iconst (-1), 1) := dk_2 (dk_at dksX1_queue_0 9 rfl rfl)
theorem dX1_queue_10 : decode cX1_queue 10 = .ok (.if_icmp .ne 13, 3) := dk_160 0 13 (dk_at dksX1_queue_0 10 rfl rfl)
theorem dX1_queue_13 : decode cX1_queue 13 = .ok (.aload_n 0, 1) := dk_42 (dk_at dksX1_queue_0 13 rfl rfl)
theorem dX1_queue_14 : decode cX1_queue 14 = .ok (.getfield 62, 3) := dk_180 0 62 (dk_at dksX1_queue_0 14 rfl rfl)
theorem dX1_queue_17 : decode cX1_queue 17 = .ok (.iconst 0, 1) := dk_3 (dk_at dksX1_queue_0 17 rfl rfl)
theorem dX1_queue_18 : decode cX1_queue 18 = .ok (.iconst (-1), 1) := dk_2 (dk_at dksX1_queue_0 18 rfl rfl)
theorem dX1_queue_19 : decode cX1_queue 19 = .ok (.invokevirtual 572, 3) := dk_182 2 60 (dk_at dksX1_queue_0 19 rfl rfl)
theorem dX1_queue_22 : decode cX1_queue 22 = .ok (.ireturn, 1) := dk_172 (dk_at dksX1_queue_0 22 rfl rfl)
theorem dX1_queue_23 : decode cX1_queue 23 = .ok (.iload_n 1, 1) := dk_27 (dk_at dksX1_queue_0 23 rfl rfl)
theorem dX1_queue_24 : decode cX1_queue 24 = .ok (.iconst 0, 1) := dk_3 (dk_at dksX1_queue_1 0 rfl rfl)
theorem dX1_queue_25 : decode cX1_queue 25 = .ok (.aload_n 0, 1) := dk_42 (dk_at dksX1_queue_1 1 rfl rfl)
theorem dX1_queue_26 : decode cX1_queue 26 = .ok (.getfield 62, 3) := dk_180 0 62 (dk_at dksX1_queue_1 2 rfl rfl)
theorem dX1_queue_29 : decode cX1_queue 29 = .ok (.getfield 575, 3) := dk_180 2 63 (dk_at dksX1_queue_1 5 rfl rfl)
theorem dX1_queue_32 : decode cX1_queue 32 = .ok (.iconst 1, 1) := dk_4 (dk_at dksX1_queue_1 8 rfl rfl)
theorem dX1_queue_33 : decode cX1_queue 33 = .ok (.isub, 1) := dk_100 (dk_at dksX1_queue_1 9 rfl rfl)
theorem dX1_queue_34 : decode cX1_queue 34 = .ok (.invokestatic 91, 3) := dk_184 0 91 (dk_at dksX1_queue_1 10 rfl rfl)
theorem dX1_queue_37 : decode cX1_queue 37 = .ok (.ifCond .eq 14, 3) := dk_153 0 14 (dk_at dksX1_queue_1 13 rfl rfl)
theorem dX1_queue_40 : decode cX1_queue 40 = .ok (.aload_n 0, 1) := dk_42 (dk_at dksX1_queue_1 16 rfl rfl)
theorem dX1_queue_41 : decode cX1_queue 41 = .ok (.getfield 62, 3) := dk_180 0 62 (dk_at dksX1_queue_1 17 rfl rfl)
theorem dX1_queue_44 : decode cX1_queue 44 = .ok (.iload_n 1, 1) := dk_27 (dk_at dksX1_queue_1 20 rfl rfl)
theorem dX1_queue_45 : decode cX1_queue 45 = .ok (.invokevirtual 577, 3) := dk_182 2 65 (dk_at dksX1_queue_1 21 rfl rfl)
theorem dX1_queue_48 : decode cX1_queue 48 = .ok (.goto 4, 3) := dk_167 0 4 (dk_at dksX1_queue_2 0 rfl rfl)
theorem dX1_queue_51 : decode cX1_queue 51 = .ok (.iconst (-1), 1) := dk_2 (dk_at dksX1_queue_2 3 rfl rfl)
theorem dX1_queue_52 : decode cX1_queue 52 = .ok (.ireturn, 1) := dk_172 (dk_at dksX1_queue_2 4 rfl rfl)
abbrev cX1_kth : ByteArray := prog_1_method_37_code
def yX1_kth : MethodName := ⟨RX1, "kth", "(II)I"⟩
def dkwX1_kth_1 : List UInt8 := [184, 1, 164, 172]
abbrev dktX1_kth_1 : List UInt8 := dkwX1_kth_1 ++ []
def dkwX1_kth_0 : List UInt8 := [26, 61, 3, 62, 29, 27, 162, 0, 15, 28, 28, 4, 100, 126, 61, 132, 3, 1, 167, 255, 242, 28]
abbrev dktX1_kth_0 : List UInt8 := dkwX1_kth_0 ++ dktX1_kth_1
theorem dksX1_kth_0 : cX1_kth.data.toList.drop 0 = dktX1_kth_0 := by decide +kernel
theorem dksX1_kth_1 : cX1_kth.data.toList.drop 22 = dktX1_kth_1 := dk_seg dksX1_kth_0 22 rfl rfl
theorem dX1_kth_0 : decode cX1_kth 0 = .ok (.iload_n 0, 1) := dk_26 (dk_at dksX1_kth_0 0 rfl rfl)
theorem dX1_kth_1 : decode cX1_kth 1 = .ok (.istore_n 2, 1) := dk_61 (dk_at dksX1_kth_0 1 rfl rfl)
theorem dX1_kth_2 : decode cX1_kth 2 = .ok (.iconst 0, 1) := dk_3 (dk_at dksX1_kth_0 2 rfl rfl)
theorem dX1_kth_3 : decode cX1_kth 3 = .ok (.istore_n 3, 1) := dk_62 (dk_at dksX1_kth_0 3 rfl rfl)
theorem dX1_kth_4 : decode cX1_kth 4 = .ok (.iload_n 3, 1) := dk_29 (dk_at dksX1_kth_0 4 rfl rfl)
theorem dX1_kth_5 : decode cX1_kth 5 = .ok (.iload_n 1, 1) := dk_27 (dk_at dksX1_kth_0 5 rfl rfl)
theorem dX1_kth_6 : decode cX1_kth 6 = .ok (.if_icmp .ge 15, 3) := dk_162 0 15 (dk_at dksX1_kth_0 6 rfl rfl)
theorem dX1_kth_9 : decode cX1_kth 9 = .ok (.iload_n 2, 1) := dk_28 (dk_at dksX1_kth_0 9 rfl rfl)
theorem dX1_kth_10 : decode cX1_kth 10 = .ok (.iload_n 2, 1) := dk_28 (dk_at dksX1_kth_0 10 rfl rfl)
theorem dX1_kth_11 : decode cX1_kth 11 = .ok (.iconst 1, 1) := dk_4 (dk_at dksX1_kth_0 11 rfl rfl)
theorem dX1_kth_12 : decode cX1_kth 12 = .ok (.isub, 1) := dk_100 (dk_at dksX1_kth_0 12 rfl rfl)
theorem dX1_kth_13 : decode cX1_kth 13 = .ok (.iand, 1) := dk_126 (dk_at dksX1_kth_0 13 rfl rfl)
theorem dX1_kth_14 : decode cX1_kth 14 = .ok (.istore_n 2, 1) := dk_61 (dk_at dksX1_kth_0 14 rfl rfl)
theorem dX1_kth_15 : decode cX1_kth 15 = .ok (.iinc 3 1, 3) := dk_132 3 1 (dk_at dksX1_kth_0 15 rfl rfl)
theorem dX1_kth_18 : decode cX1_kth 18 = .ok (.goto (-14), 3) := dk_167 255 242 (dk_at dksX1_kth_0 18 rfl rfl)
theorem dX1_kth_21 : decode cX1_kth 21 = .ok (.iload_n 2, 1) := dk_28 (dk_at dksX1_kth_0 21 rfl rfl)
theorem dX1_kth_22 : decode cX1_kth 22 = .ok (.invokestatic 420, 3) := dk_184 1 164 (dk_at dksX1_kth_1 0 rfl rfl)
theorem dX1_kth_25 : decode cX1_kth 25 = .ok (.ireturn, 1) := dk_172 (dk_at dksX1_kth_1 3 rfl rfl)
abbrev cX1_in : ByteArray := prog_1_method_2_code
def yX1_in : MethodName := ⟨RX1, "in", "(III)Z"⟩
def dkwX1_in_0 : List UInt8 := [26, 27, 161, 0, 12, 26, 28, 163, 0, 7, 4, 167, 0, 4, 3, 172]
abbrev dktX1_in_0 : List UInt8 := dkwX1_in_0 ++ []
theorem dksX1_in_0 : cX1_in.data.toList.drop 0 = dktX1_in_0 := by decide +kernel
theorem dX1_in_0 : decode cX1_in 0 = .ok (.iload_n 0, 1) := dk_26 (dk_at dksX1_in_0 0 rfl rfl)
theorem dX1_in_1 : decode cX1_in 1 = .ok (.iload_n 1, 1) := dk_27 (dk_at dksX1_in_0 1 rfl rfl)
theorem dX1_in_2 : decode cX1_in 2 = .ok (.if_icmp .lt 12, 3) := dk_161 0 12 (dk_at dksX1_in_0 2 rfl rfl)
theorem dX1_in_5 : decode cX1_in 5 = .ok (.iload_n 0, 1) := dk_26 (dk_at dksX1_in_0 5 rfl rfl)
theorem dX1_in_6 : decode cX1_in 6 = .ok (.iload_n 2, 1) := dk_28 (dk_at dksX1_in_0 6 rfl rfl)
theorem dX1_in_7 : decode cX1_in 7 = .ok (.if_icmp .gt 7, 3) := dk_163 0 7 (dk_at dksX1_in_0 7 rfl rfl)
theorem dX1_in_10 : decode cX1_in 10 = .ok (.iconst 1, 1) := dk_4 (dk_at dksX1_in_0 10 rfl rfl)
theorem dX1_in_11 : decode cX1_in 11 = .ok (.goto 4, 3) := dk_167 0 4 (dk_at dksX1_in_0 11 rfl rfl)
theorem dX1_in_14 : decode cX1_in 14 = .ok (.iconst 0, 1) := dk_3 (dk_at dksX1_in_0 14 rfl rfl)
theorem dX1_in_15 : decode cX1_in 15 = .ok (.ireturn, 1) := dk_172 (dk_at dksX1_in_0 15 rfl rfl)
abbrev cX1_row : ByteArray := prog_1_method_90_code
def yX1_row : MethodName := ⟨RX1, "row", "(Z)I"⟩
def dkwX1_row_2 : List UInt8 := [167, 255, 218, 27, 153, 0, 7, 28, 167, 0, 4, 29, 172]
abbrev dktX1_row_2 : List UInt8 := dkwX1_row_2 ++ []
def dkwX1_row_1 : List UInt8 := [182, 2, 77, 29, 163, 0, 6, 167, 0, 13, 21, 4, 61, 42, 21, 4, 182, 2, 77, 62, 132, 4, 1]
abbrev dktX1_row_1 : List UInt8 := dkwX1_row_1 ++ dktX1_row_2
def dkwX1_row_0 : List UInt8 := [2, 61, 3, 62, 3, 54, 4, 21, 4, 42, 180, 0, 10, 180, 0, 166, 162, 0, 32, 42, 21, 4]
abbrev dktX1_row_0 : List UInt8 := dkwX1_row_0 ++ dktX1_row_1
theorem dksX1_row_0 : cX1_row.data.toList.drop 0 = dktX1_row_0 := by decide +kernel
theorem dksX1_row_1 : cX1_row.data.toList.drop 22 = dktX1_row_1 := dk_seg dksX1_row_0 22 rfl rfl
theorem dksX1_row_2 : cX1_row.data.toList.drop 45 = dktX1_row_2 := dk_seg dksX1_row_1 23 rfl rfl
theorem dX1_row_0 : decode cX1_row 0 = .ok (.iconst (-1), 1) := dk_2 (dk_at dksX1_row_0 0 rfl rfl)
theorem dX1_row_1 : decode cX1_row 1 = .ok (.istore_n 2, 1) := dk_61 (dk_at dksX1_row_0 1 rfl rfl)
theorem dX1_row_2 : decode cX1_row 2 = .ok (.iconst 0, 1) := dk_3 (dk_at dksX1_row_0 2 rfl rfl)
theorem dX1_row_3 : decode cX1_row 3 = .ok (.istore_n 3, 1) := dk_62 (dk_at dksX1_row_0 3 rfl rfl)
theorem dX1_row_4 : decode cX1_row 4 = .ok (.iconst 0, 1) := dk_3 (dk_at dksX1_row_0 4 rfl rfl)
theorem dX1_row_5 : decode cX1_row 5 = .ok (.istore 4, 2) := dk_54 4 (dk_at dksX1_row_0 5 rfl rfl)
theorem dX1_row_7 : decode cX1_row 7 = .ok (.iload 4, 2) := dk_21 4 (dk_at dksX1_row_0 7 rfl rfl)
theorem dX1_row_9 : decode cX1_row 9 = .ok (.aload_n 0, 1) := dk_42 (dk_at dksX1_row_0 9 rfl rfl)
theorem dX1_row_10 : decode cX1_row 10 = .ok (.getfield 10, 3) := dk_180 0 10 (dk_at dksX1_row_0 10 rfl rfl)
theorem dX1_row_13 : decode cX1_row 13 = .ok (.getfield 166, 3) := dk_180 0 166 (dk_at dksX1_row_0 13 rfl rfl)
theorem dX1_row_16 : decode cX1_row 16 = .ok (.if_icmp .ge 32, 3) := dk_162 0 32 (dk_at dksX1_row_0 16 rfl rfl)
theorem dX1_row_19 : decode cX1_row 19 = .ok (.aload_n 0, 1) := dk_42 (dk_at dksX1_row_0 19 rfl rfl)
theorem dX1_row_20 : decode cX1_row 20 = .ok (.iload 4, 2) := dk_21 4 (dk_at dksX1_row_0 20 rfl rfl)
theorem dX1_row_22 : decode cX1_row 22 = .ok (.invokevirtual 589, 3) := dk_182 2 77 (dk_at dksX1_row_1 0 rfl rfl)
theorem dX1_row_25 : decode cX1_row 25 = .ok (.iload_n 3, 1) := dk_29 (dk_at dksX1_row_1 3 rfl rfl)
theorem dX1_row_26 : decode cX1_row 26 = .ok (.if_icmp .gt 6, 3) := dk_163 0 6 (dk_at dksX1_row_1 4 rfl rfl)
theorem dX1_row_29 : decode cX1_row 29 = .ok (.goto 13, 3) := dk_167 0 13 (dk_at dksX1_row_1 7 rfl rfl)
theorem dX1_row_32 : decode cX1_row 32 = .ok (.iload 4, 2) := dk_21 4 (dk_at dksX1_row_1 10 rfl rfl)
theorem dX1_row_34 : decode cX1_row 34 = .ok (.istore_n 2, 1) := dk_61 (dk_at dksX1_row_1 12 rfl rfl)
theorem dX1_row_35 : decode cX1_row 35 = .ok (.aload_n 0, 1) := dk_42 (dk_at dksX1_row_1 13 rfl rfl)
theorem dX1_row_36 : decode cX1_row 36 = .ok (.iload 4, 2) := dk_21 4 (dk_at dksX1_row_1 14 rfl rfl)
theorem dX1_row_38 : decode cX1_row 38 = .ok (.invokevirtual 589, 3) := dk_182 2 77 (dk_at dksX1_row_1 16 rfl rfl)
theorem dX1_row_41 : decode cX1_row 41 = .ok (.istore_n 3, 1) := dk_62 (dk_at dksX1_row_1 19 rfl rfl)
theorem dX1_row_42 : decode cX1_row 42 = .ok (.iinc 4 1, 3) := dk_132 4 1 (dk_at dksX1_row_1 20 rfl rfl)
theorem dX1_row_45 : decode cX1_row 45 = .ok (.goto (-38), 3) := dk_167 255 218 (dk_at dksX1_row_2 0 rfl rfl)
theorem dX1_row_48 : decode cX1_row 48 = .ok (.iload_n 1, 1) := dk_27 (dk_at dksX1_row_2 3 rfl rfl)
theorem dX1_row_49 : decode cX1_row 49 = .ok (.ifCond .eq 7, 3) := dk_153 0 7 (dk_at dksX1_row_2 4 rfl rfl)
theorem dX1_row_52 : decode cX1_row 52 = .ok (.iload_n 2, 1) := dk_28 (dk_at dksX1_row_2 7 rfl rfl)
theorem dX1_row_53 : decode cX1_row 53 = .ok (.goto 4, 3) := dk_167 0 4 (dk_at dksX1_row_2 8 rfl rfl)
theorem dX1_row_56 : decode cX1_row 56 = .ok (.iload_n 3, 1) := dk_29 (dk_at dksX1_row_2 11 rfl rfl)
theorem dX1_row_57 : decode cX1_row 57 = .ok (.ireturn, 1) := dk_172 (dk_at dksX1_row_2 12 rfl rfl)
abbrev cX1_rowFrom : ByteArray := prog_1_method_88_code
def yX1_rowFrom : MethodName := ⟨RX1, "rowFrom", "(I)I"⟩
def dkwX1_rowFrom_1 : List UInt8 := [96, 46, 2, 159, 0, 9, 132, 2, 1, 167, 255, 225, 28, 172]
abbrev dktX1_rowFrom_1 : List UInt8 := dkwX1_rowFrom_1 ++ []
def dkwX1_rowFrom_0 : List UInt8 := [3, 61, 27, 28, 96, 42, 180, 0, 10, 180, 0, 166, 162, 0, 24, 42, 180, 0, 10, 180, 0, 160, 27, 28]
abbrev dktX1_rowFrom_0 : List UInt8 := dkwX1_rowFrom_0 ++ dktX1_rowFrom_1
theorem dksX1_rowFrom_0 : cX1_rowFrom.data.toList.drop 0 = dktX1_rowFrom_0 := by decide +kernel
theorem dksX1_rowFrom_1 : cX1_rowFrom.data.toList.drop 24 = dktX1_rowFrom_1 := dk_seg dksX1_rowFrom_0 24 rfl rfl
theorem dX1_rowFrom_0 : decode cX1_rowFrom 0 = .ok (.iconst 0, 1) := dk_3 (dk_at dksX1_rowFrom_0 0 rfl rfl)
theorem dX1_rowFrom_1 : decode cX1_rowFrom 1 = .ok (.istore_n 2, 1) := dk_61 (dk_at dksX1_rowFrom_0 1 rfl rfl)
theorem dX1_rowFrom_2 : decode cX1_rowFrom 2 = .ok (.iload_n 1, 1) := dk_27 (dk_at dksX1_rowFrom_0 2 rfl rfl)
theorem dX1_rowFrom_3 : decode cX1_rowFrom 3 = .ok (.iload_n 2, 1) := dk_28 (dk_at dksX1_rowFrom_0 3 rfl rfl)
theorem dX1_rowFrom_4 : decode cX1_rowFrom 4 = .ok (.iadd, 1) := dk_96 (dk_at dksX1_rowFrom_0 4 rfl rfl)
theorem dX1_rowFrom_5 : decode cX1_rowFrom 5 = .ok (.aload_n 0, 1) := dk_42 (dk_at dksX1_rowFrom_0 5 rfl rfl)
theorem dX1_rowFrom_6 : decode cX1_rowFrom 6 = .ok (.getfield 10, 3) := dk_180 0 10 (dk_at dksX1_rowFrom_0 6 rfl rfl)
theorem dX1_rowFrom_9 : decode cX1_rowFrom 9 = .ok (.getfield 166, 3) := dk_180 0 166 (dk_at dksX1_rowFrom_0 9 rfl rfl)
theorem dX1_rowFrom_12 : decode cX1_rowFrom 12 = .ok (.if_icmp .ge 24, 3) := dk_162 0 24 (dk_at dksX1_rowFrom_0 12 rfl rfl)
theorem dX1_rowFrom_15 : decode cX1_rowFrom 15 = .ok (.aload_n 0, 1) := dk_42 (dk_at dksX1_rowFrom_0 15 rfl rfl)
theorem dX1_rowFrom_16 : decode cX1_rowFrom 16 = .ok (.getfield 10, 3) := dk_180 0 10 (dk_at dksX1_rowFrom_0 16 rfl rfl)
theorem dX1_rowFrom_19 : decode cX1_rowFrom 19 = .ok (.getfield 160, 3) := dk_180 0 160 (dk_at dksX1_rowFrom_0 19 rfl rfl)
theorem dX1_rowFrom_22 : decode cX1_rowFrom 22 = .ok (.iload_n 1, 1) := dk_27 (dk_at dksX1_rowFrom_0 22 rfl rfl)
theorem dX1_rowFrom_23 : decode cX1_rowFrom 23 = .ok (.iload_n 2, 1) := dk_28 (dk_at dksX1_rowFrom_0 23 rfl rfl)
theorem dX1_rowFrom_24 : decode cX1_rowFrom 24 = .ok (.iadd, 1) := dk_96 (dk_at dksX1_rowFrom_1 0 rfl rfl)
theorem dX1_rowFrom_25 : decode cX1_rowFrom 25 = .ok (.iaload, 1) := dk_46 (dk_at dksX1_rowFrom_1 1 rfl rfl)
theorem dX1_rowFrom_26 : decode cX1_rowFrom 26 = .ok (.iconst (-1), 1) := dk_2 (dk_at dksX1_rowFrom_1 2 rfl rfl)
theorem dX1_rowFrom_27 : decode cX1_rowFrom 27 = .ok (.if_icmp .eq 9, 3) := dk_159 0 9 (dk_at dksX1_rowFrom_1 3 rfl rfl)
theorem dX1_rowFrom_30 : decode cX1_rowFrom 30 = .ok (.iinc 2 1, 3) := dk_132 2 1 (dk_at dksX1_rowFrom_1 6 rfl rfl)
theorem dX1_rowFrom_33 : decode cX1_rowFrom 33 = .ok (.goto (-31), 3) := dk_167 255 225 (dk_at dksX1_rowFrom_1 9 rfl rfl)
theorem dX1_rowFrom_36 : decode cX1_rowFrom 36 = .ok (.iload_n 2, 1) := dk_28 (dk_at dksX1_rowFrom_1 12 rfl rfl)
theorem dX1_rowFrom_37 : decode cX1_rowFrom 37 = .ok (.ireturn, 1) := dk_172 (dk_at dksX1_rowFrom_1 13 rfl rfl)
abbrev cX1_seed : ByteArray := prog_1_method_100_code
def yX1_seed : MethodName := ⟨RX1, "seed", "(I)I"⟩
def dkwX1_seed_0 : List UInt8 := [42, 180, 0, 10, 180, 2, 83, 61, 42, 180, 0, 10, 27, 181, 2, 83, 28, 172]
abbrev dktX1_seed_0 : List UInt8 := dkwX1_seed_0 ++ []
theorem dksX1_seed_0 : cX1_seed.data.toList.drop 0 = dktX1_seed_0 := by decide +kernel
theorem dX1_seed_0 : decode cX1_seed 0 = .ok (.aload_n 0, 1) := dk_42 (dk_at dksX1_seed_0 0 rfl rfl)
theorem dX1_seed_1 : decode cX1_seed 1 = .ok (.getfield 10, 3) := dk_180 0 10 (dk_at dksX1_seed_0 1 rfl rfl)
theorem dX1_seed_4 : decode cX1_seed 4 = .ok (.getfield 595, 3) := dk_180 2 83 (dk_at dksX1_seed_0 4 rfl rfl)
theorem dX1_seed_7 : decode cX1_seed 7 = .ok (.istore_n 2, 1) := dk_61 (dk_at dksX1_seed_0 7 rfl rfl)
theorem dX1_seed_8 : decode cX1_seed 8 = .ok (.aload_n 0, 1) := dk_42 (dk_at dksX1_seed_0 8 rfl rfl)
theorem dX1_seed_9 : decode cX1_seed 9 = .ok (.getfield 10, 3) := dk_180 0 10 (dk_at dksX1_seed_0 9 rfl rfl)
theorem dX1_seed_12 : decode cX1_seed 12 = .ok (.iload_n 1, 1) := dk_27 (dk_at dksX1_seed_0 12 rfl rfl)
theorem dX1_seed_13 : decode cX1_seed 13 = .ok (.putfield 595, 3) := dk_181 2 83 (dk_at dksX1_seed_0 13 rfl rfl)
theorem dX1_seed_16 : decode cX1_seed 16 = .ok (.iload_n 2, 1) := dk_28 (dk_at dksX1_seed_0 16 rfl rfl)
theorem dX1_seed_17 : decode cX1_seed 17 = .ok (.ireturn, 1) := dk_172 (dk_at dksX1_seed_0 17 rfl rfl)
abbrev cX1_undo : ByteArray := prog_1_method_101_code
def yX1_undo : MethodName := ⟨RX1, "undo", "()Z"⟩
def dkwX1_undo_1 : List UInt8 := [182, 1, 94, 4, 100, 182, 1, 191, 192, 0, 7, 182, 0, 236, 87, 4, 172]
abbrev dktX1_undo_1 : List UInt8 := dkwX1_undo_1 ++ []
def dkwX1_undo_0 : List UInt8 := [42, 180, 0, 39, 182, 2, 107, 153, 0, 5, 3, 172, 42, 180, 0, 10, 42, 180, 0, 39, 42, 180, 0, 39]
abbrev dktX1_undo_0 : List UInt8 := dkwX1_undo_0 ++ dktX1_undo_1
theorem dksX1_undo_0 : cX1_undo.data.toList.drop 0 = dktX1_undo_0 := by decide +kernel
theorem dksX1_undo_1 : cX1_undo.data.toList.drop 24 = dktX1_undo_1 := dk_seg dksX1_undo_0 24 rfl rfl
theorem dX1_undo_0 : decode cX1_undo 0 = .ok (.aload_n 0, 1) := dk_42 (dk_at dksX1_undo_0 0 rfl rfl)
theorem dX1_undo_1 : decode cX1_undo 1 = .ok (.getfield 39, 3) := dk_180 0 39 (dk_at dksX1_undo_0 1 rfl rfl)
theorem dX1_undo_4 : decode cX1_undo 4 = .ok (.invokevirtual 619, 3) := dk_182 2 107 (dk_at dksX1_undo_0 4 rfl rfl)
theorem dX1_undo_7 : decode cX1_undo 7 = .ok (.ifCond .eq 5, 3) := dk_153 0 5 (dk_at dksX1_undo_0 7 rfl rfl)
theorem dX1_undo_10 : decode cX1_undo 10 = .ok (.iconst 0, 1) := dk_3 (dk_at dksX1_undo_0 10 rfl rfl)
theorem dX1_undo_11 : decode cX1_undo 11 = .ok (.ireturn, 1) := dk_172 (dk_at dksX1_undo_0 11 rfl rfl)
theorem dX1_undo_12 : decode cX1_undo 12 = .ok (.aload_n 0, 1) := dk_42 (dk_at dksX1_undo_0 12 rfl rfl)
theorem dX1_undo_13 : decode cX1_undo 13 = .ok (.getfield 10, 3) := dk_180 0 10 (dk_at dksX1_undo_0 13 rfl rfl)
theorem dX1_undo_16 : decode cX1_undo 16 = .ok (.aload_n 0, 1) := dk_42 (dk_at dksX1_undo_0 16 rfl rfl)
theorem dX1_undo_17 : decode cX1_undo 17 = .ok (.getfield 39, 3) := dk_180 0 39 (dk_at dksX1_undo_0 17 rfl rfl)
theorem dX1_undo_20 : decode cX1_undo 20 = .ok (.aload_n 0, 1) := dk_42 (dk_at dksX1_undo_0 20 rfl rfl)
theorem dX1_undo_21 : decode cX1_undo 21 = .ok (.getfield 39, 3) := dk_180 0 39 (dk_at dksX1_undo_0 21 rfl rfl)
theorem dX1_undo_24 : decode cX1_undo 24 = .ok (.invokevirtual 350, 3) := dk_182 1 94 (dk_at dksX1_undo_1 0 rfl rfl)
theorem dX1_undo_27 : decode cX1_undo 27 = .ok (.iconst 1, 1) := dk_4 (dk_at dksX1_undo_1 3 rfl rfl)
theorem dX1_undo_28 : decode cX1_undo 28 = .ok (.isub, 1) := dk_100 (dk_at dksX1_undo_1 4 rfl rfl)
theorem dX1_undo_29 : decode cX1_undo 29 = .ok (.invokevirtual 447, 3) := dk_182 1 191 (dk_at dksX1_undo_1 5 rfl rfl)
theorem dX1_undo_32 : decode cX1_undo 32 = .ok (.checkcast 7, 3) := dk_192 0 7 (dk_at dksX1_undo_1 8 rfl rfl)
theorem dX1_undo_35 : decode cX1_undo 35 = .ok (.invokevirtual 236, 3) := dk_182 0 236 (dk_at dksX1_undo_1 11 rfl rfl)
theorem dX1_undo_38 : decode cX1_undo 38 = .ok (.pop, 1) := dk_87 (dk_at dksX1_undo_1 14 rfl rfl)
theorem dX1_undo_39 : decode cX1_undo 39 = .ok (.iconst 1, 1) := dk_4 (dk_at dksX1_undo_1 15 rfl rfl)
theorem dX1_undo_40 : decode cX1_undo 40 = .ok (.ireturn, 1) := dk_172 (dk_at dksX1_undo_1 16 rfl rfl)
abbrev cX1_image : ByteArray := prog_1_method_102_code
def yX1_image : MethodName := ⟨RX1, "image", "()V"⟩
def dkwX1_image_0 : List UInt8 := [42, 4, 181, 2, 110, 42, 180, 0, 19, 42, 180, 0, 10, 182, 0, 236, 87, 177]
abbrev dktX1_image_0 : List UInt8 := dkwX1_image_0 ++ []
theorem dksX1_image_0 : cX1_image.data.toList.drop 0 = dktX1_image_0 := by decide +kernel
theorem dX1_image_0 : decode cX1_image 0 = .ok (.aload_n 0, 1) := dk_42 (dk_at dksX1_image_0 0 rfl rfl)
theorem dX1_image_1 : decode cX1_image 1 = .ok (.iconst 1, 1) := dk_4 (dk_at dksX1_image_0 1 rfl rfl)
theorem dX1_image_2 : decode cX1_image 2 = .ok (.putfield 622, 3) := dk_181 2 110 (dk_at dksX1_image_0 2 rfl rfl)
theorem dX1_image_5 : decode cX1_image 5 = .ok (.aload_n 0, 1) := dk_42 (dk_at dksX1_image_0 5 rfl rfl)
theorem dX1_image_6 : decode cX1_image 6 = .ok (.getfield 19, 3) := dk_180 0 19 (dk_at dksX1_image_0 6 rfl rfl)
theorem dX1_image_9 : decode cX1_image 9 = .ok (.aload_n 0, 1) := dk_42 (dk_at dksX1_image_0 9 rfl rfl)
theorem dX1_image_10 : decode cX1_image 10 = .ok (.getfield 10, 3) := dk_180 0 10 (dk_at dksX1_image_0 10 rfl rfl)
theorem dX1_image_13 : decode cX1_image 13 = .ok (.invokevirtual 236, 3) := dk_182 0 236 (dk_at dksX1_image_0 13 rfl rfl)
theorem dX1_image_16 : decode cX1_image 16 = .ok (.pop, 1) := dk_87 (dk_at dksX1_image_0 16 rfl rfl)
theorem dX1_image_17 : decode cX1_image 17 = .ok (.return_, 1) := dk_177 (dk_at dksX1_image_0 17 rfl rfl)
abbrev cX1_back : ByteArray := prog_1_method_103_code
def yX1_back : MethodName := ⟨RX1, "back", "()Z"⟩
def dkwX1_back_1 : List UInt8 := [180, 0, 39, 182, 0, 254, 4, 172]
abbrev dktX1_back_1 : List UInt8 := dkwX1_back_1 ++ []
def dkwX1_back_0 : List UInt8 := [42, 180, 2, 110, 154, 0, 5, 3, 172, 42, 180, 0, 10, 42, 180, 0, 19, 182, 0, 236, 87, 42]
abbrev dktX1_back_0 : List UInt8 := dkwX1_back_0 ++ dktX1_back_1
theorem dksX1_back_0 : cX1_back.data.toList.drop 0 = dktX1_back_0 := by decide +kernel
theorem dksX1_back_1 : cX1_back.data.toList.drop 22 = dktX1_back_1 := dk_seg dksX1_back_0 22 rfl rfl
theorem dX1_back_0 : decode cX1_back 0 = .ok (.aload_n 0, 1) := dk_42 (dk_at dksX1_back_0 0 rfl rfl)
theorem dX1_back_1 : decode cX1_back 1 = .ok (.getfield 622, 3) := dk_180 2 110 (dk_at dksX1_back_0 1 rfl rfl)
theorem dX1_back_4 : decode cX1_back 4 = .ok (.ifCond .ne 5, 3) := dk_154 0 5 (dk_at dksX1_back_0 4 rfl rfl)
theorem dX1_back_7 : decode cX1_back 7 = .ok (.iconst 0, 1) := dk_3 (dk_at dksX1_back_0 7 rfl rfl)
theorem dX1_back_8 : decode cX1_back 8 = .ok (.ireturn, 1) := dk_172 (dk_at dksX1_back_0 8 rfl rfl)
theorem dX1_back_9 : decode cX1_back 9 = .ok (.aload_n 0, 1) := dk_42 (dk_at dksX1_back_0 9 rfl rfl)
theorem dX1_back_10 : decode cX1_back 10 = .ok (.getfield 10, 3) := dk_180 0 10 (dk_at dksX1_back_0 10 rfl rfl)
theorem dX1_back_13 : decode cX1_back 13 = .ok (.aload_n 0, 1) := dk_42 (dk_at dksX1_back_0 13 rfl rfl)
theorem dX1_back_14 : decode cX1_back 14 = .ok (.getfield 19, 3) := dk_180 0 19 (dk_at dksX1_back_0 14 rfl rfl)
theorem dX1_back_17 : decode cX1_back 17 = .ok (.invokevirtual 236, 3) := dk_182 0 236 (dk_at dksX1_back_0 17 rfl rfl)
theorem dX1_back_20 : decode cX1_back 20 = .ok (.pop, 1) := dk_87 (dk_at dksX1_back_0 20 rfl rfl)
theorem dX1_back_21 : decode cX1_back 21 = .ok (.aload_n 0, 1) := dk_42 (dk_at dksX1_back_0 21 rfl rfl)
theorem dX1_back_22 : decode cX1_back 22 = .ok (.getfield 39, 3) := dk_180 0 39 (dk_at dksX1_back_1 0 rfl rfl)
theorem dX1_back_25 : decode cX1_back 25 = .ok (.invokevirtual 254, 3) := dk_182 0 254 (dk_at dksX1_back_1 3 rfl rfl)
theorem dX1_back_28 : decode cX1_back 28 = .ok (.iconst 1, 1) := dk_4 (dk_at dksX1_back_1 6 rfl rfl)
theorem dX1_back_29 : decode cX1_back 29 = .ok (.ireturn, 1) := dk_172 (dk_at dksX1_back_1 7 rfl rfl)
abbrev cX1_count : ByteArray := prog_1_method_105_code
def yX1_count : MethodName := ⟨RX1, "count", "(I)I"⟩
def dkwX1_count_5 : List UInt8 := [42, 180, 0, 39, 182, 1, 94, 172, 2, 172]
abbrev dktX1_count_5 : List UInt8 := dkwX1_count_5 ++ []
def dkwX1_count_4 : List UInt8 := [180, 0, 210, 172, 44, 180, 0, 212, 172, 44, 182, 1, 233, 172, 42, 182, 2, 113, 172, 44, 180, 2, 101, 172]
abbrev dktX1_count_4 : List UInt8 := dkwX1_count_4 ++ dktX1_count_5
def dkwX1_count_3 : List UInt8 := [199, 0, 7, 2, 167, 0, 13, 44, 180, 1, 105, 180, 1, 91, 182, 1, 94, 172, 44, 180, 1, 115, 172, 44]
abbrev dktX1_count_3 : List UInt8 := dkwX1_count_3 ++ dktX1_count_4
def dkwX1_count_2 : List UInt8 := [44, 180, 0, 102, 172, 44, 180, 0, 166, 172, 44, 182, 1, 129, 172, 44, 180, 0, 248, 172, 44, 180, 1, 105]
abbrev dktX1_count_2 : List UInt8 := dkwX1_count_2 ++ dktX1_count_3
def dkwX1_count_1 : List UInt8 := [170, 0, 0, 0, 0, 142, 0, 0, 0, 0, 0, 0, 0, 11, 0, 0, 0, 62, 0, 0, 0, 67, 0, 0, 0, 72, 0, 0, 0, 77, 0, 0, 0, 82, 0, 0, 0, 104, 0, 0, 0, 109, 0, 0, 0, 114, 0, 0, 0, 119, 0, 0, 0, 124, 0, 0, 0, 129, 0, 0, 0, 134]
abbrev dktX1_count_1 : List UInt8 := dkwX1_count_1 ++ dktX1_count_2
def dkwX1_count_0 : List UInt8 := [42, 180, 0, 10, 77, 27]
abbrev dktX1_count_0 : List UInt8 := dkwX1_count_0 ++ dktX1_count_1
theorem dksX1_count_0 : cX1_count.data.toList.drop 0 = dktX1_count_0 := by decide +kernel
theorem dksX1_count_1 : cX1_count.data.toList.drop 6 = dktX1_count_1 := dk_seg dksX1_count_0 6 rfl rfl
theorem dksX1_count_2 : cX1_count.data.toList.drop 68 = dktX1_count_2 := dk_seg dksX1_count_1 62 rfl rfl
theorem dksX1_count_3 : cX1_count.data.toList.drop 92 = dktX1_count_3 := dk_seg dksX1_count_2 24 rfl rfl
theorem dksX1_count_4 : cX1_count.data.toList.drop 116 = dktX1_count_4 := dk_seg dksX1_count_3 24 rfl rfl
theorem dksX1_count_5 : cX1_count.data.toList.drop 140 = dktX1_count_5 := dk_seg dksX1_count_4 24 rfl rfl
theorem dX1_count_0 : decode cX1_count 0 = .ok (.aload_n 0, 1) := dk_42 (dk_at dksX1_count_0 0 rfl rfl)
theorem dX1_count_1 : decode cX1_count 1 = .ok (.getfield 10, 3) := dk_180 0 10 (dk_at dksX1_count_0 1 rfl rfl)
theorem dX1_count_4 : decode cX1_count 4 = .ok (.astore_n 2, 1) := dk_77 (dk_at dksX1_count_0 4 rfl rfl)
theorem dX1_count_5 : decode cX1_count 5 = .ok (.iload_n 1, 1) := dk_27 (dk_at dksX1_count_0 5 rfl rfl)
theorem dX1_count_6 : decode cX1_count 6 = .ok (.tableswitch 142 0 11 #[62, 67, 72, 77, 82, 104, 109, 114, 119, 124, 129, 134], 62) := by decide +kernel
theorem dX1_count_68 : decode cX1_count 68 = .ok (.aload_n 2, 1) := dk_44 (dk_at dksX1_count_2 0 rfl rfl)
theorem dX1_count_69 : decode cX1_count 69 = .ok (.getfield 102, 3) := dk_180 0 102 (dk_at dksX1_count_2 1 rfl rfl)
theorem dX1_count_72 : decode cX1_count 72 = .ok (.ireturn, 1) := dk_172 (dk_at dksX1_count_2 4 rfl rfl)
theorem dX1_count_73 : decode cX1_count 73 = .ok (.aload_n 2, 1) := dk_44 (dk_at dksX1_count_2 5 rfl rfl)
theorem dX1_count_74 : decode cX1_count 74 = .ok (.getfield 166, 3) := dk_180 0 166 (dk_at dksX1_count_2 6 rfl rfl)
theorem dX1_count_77 : decode cX1_count 77 = .ok (.ireturn, 1) := dk_172 (dk_at dksX1_count_2 9 rfl rfl)
theorem dX1_count_78 : decode cX1_count 78 = .ok (.aload_n 2, 1) := dk_44 (dk_at dksX1_count_2 10 rfl rfl)
theorem dX1_count_79 : decode cX1_count 79 = .ok (.invokevirtual 385, 3) := dk_182 1 129 (dk_at dksX1_count_2 11 rfl rfl)
theorem dX1_count_82 : decode cX1_count 82 = .ok (.ireturn, 1) := dk_172 (dk_at dksX1_count_2 14 rfl rfl)
theorem dX1_count_83 : decode cX1_count 83 = .ok (.aload_n 2, 1) := dk_44 (dk_at dksX1_count_2 15 rfl rfl)
theorem dX1_count_84 : decode cX1_count 84 = .ok (.getfield 248, 3) := dk_180 0 248 (dk_at dksX1_count_2 16 rfl rfl)
theorem dX1_count_87 : decode cX1_count 87 = .ok (.ireturn, 1) := dk_172 (dk_at dksX1_count_2 19 rfl rfl)
theorem dX1_count_88 : decode cX1_count 88 = .ok (.aload_n 2, 1) := dk_44 (dk_at dksX1_count_2 20 rfl rfl)
theorem dX1_count_89 : decode cX1_count 89 = .ok (.getfield 361, 3) := dk_180 1 105 (dk_at dksX1_count_2 21 rfl rfl)
theorem dX1_count_92 : decode cX1_count 92 = .ok (.ifnonnull 7, 3) := dk_199 0 7 (dk_at dksX1_count_3 0 rfl rfl)
theorem dX1_count_95 : decode cX1_count 95 = .ok (.iconst (-1), 1) := dk_2 (dk_at dksX1_count_3 3 rfl rfl)
theorem dX1_count_96 : decode cX1_count 96 = .ok (.goto 13, 3) := dk_167 0 13 (dk_at dksX1_count_3 4 rfl rfl)
theorem dX1_count_99 : decode cX1_count 99 = .ok (.aload_n 2, 1) := dk_44 (dk_at dksX1_count_3 7 rfl rfl)
theorem dX1_count_100 : decode cX1_count 100 = .ok (.getfield 361, 3) := dk_180 1 105 (dk_at dksX1_count_3 8 rfl rfl)
theorem dX1_count_103 : decode cX1_count 103 = .ok (.getfield 347, 3) := dk_180 1 91 (dk_at dksX1_count_3 11 rfl rfl)
theorem dX1_count_106 : decode cX1_count 106 = .ok (.invokevirtual 350, 3) := dk_182 1 94 (dk_at dksX1_count_3 14 rfl rfl)
theorem dX1_count_109 : decode cX1_count 109 = .ok (.ireturn, 1) := dk_172 (dk_at dksX1_count_3 17 rfl rfl)
theorem dX1_count_110 : decode cX1_count 110 = .ok (.aload_n 2, 1) := dk_44 (dk_at dksX1_count_3 18 rfl rfl)
theorem dX1_count_111 : decode cX1_count 111 = .ok (.getfield 371, 3) := dk_180 1 115 (dk_at dksX1_count_3 19 rfl rfl)
theorem dX1_count_114 : decode cX1_count 114 = .ok (.ireturn, 1) := dk_172 (dk_at dksX1_count_3 22 rfl rfl)
theorem dX1_count_115 : decode cX1_count 115 = .ok (.aload_n 2, 1) := dk_44 (dk_at dksX1_count_3 23 rfl rfl)
theorem dX1_count_116 : decode cX1_count 116 = .ok (.getfield 210, 3) := dk_180 0 210 (dk_at dksX1_count_4 0 rfl rfl)
theorem dX1_count_119 : decode cX1_count 119 = .ok (.ireturn, 1) := dk_172 (dk_at dksX1_count_4 3 rfl rfl)
theorem dX1_count_120 : decode cX1_count 120 = .ok (.aload_n 2, 1) := dk_44 (dk_at dksX1_count_4 4 rfl rfl)
theorem dX1_count_121 : decode cX1_count 121 = .ok (.getfield 212, 3) := dk_180 0 212 (dk_at dksX1_count_4 5 rfl rfl)
theorem dX1_count_124 : decode cX1_count 124 = .ok (.ireturn, 1) := dk_172 (dk_at dksX1_count_4 8 rfl rfl)
theorem dX1_count_125 : decode cX1_count 125 = .ok (.aload_n 2, 1) := dk_44 (dk_at dksX1_count_4 9 rfl rfl)
theorem dX1_count_126 : decode cX1_count 126 = .ok (.invokevirtual 489, 3) := dk_182 1 233 (dk_at dksX1_count_4 10 rfl rfl)
theorem dX1_count_129 : decode cX1_count 129 = .ok (.ireturn, 1) := dk_172 (dk_at dksX1_count_4 13 rfl rfl)
theorem dX1_count_130 : decode cX1_count 130 = .ok (.aload_n 0, 1) := dk_42 (dk_at dksX1_count_4 14 rfl rfl)
theorem dX1_count_131 : decode cX1_count 131 = .ok (.invokevirtual 625, 3) := dk_182 2 113 (dk_at dksX1_count_4 15 rfl rfl)
theorem dX1_count_134 : decode cX1_count 134 = .ok (.ireturn, 1) := dk_172 (dk_at dksX1_count_4 18 rfl rfl)
theorem dX1_count_135 : decode cX1_count 135 = .ok (.aload_n 2, 1) := dk_44 (dk_at dksX1_count_4 19 rfl rfl)
theorem dX1_count_136 : decode cX1_count 136 = .ok (.getfield 613, 3) := dk_180 2 101 (dk_at dksX1_count_4 20 rfl rfl)
theorem dX1_count_139 : decode cX1_count 139 = .ok (.ireturn, 1) := dk_172 (dk_at dksX1_count_4 23 rfl rfl)
theorem dX1_count_140 : decode cX1_count 140 = .ok (.aload_n 0, 1) := dk_42 (dk_at dksX1_count_5 0 rfl rfl)
theorem dX1_count_141 : decode cX1_count 141 = .ok (.getfield 39, 3) := dk_180 0 39 (dk_at dksX1_count_5 1 rfl rfl)
theorem dX1_count_144 : decode cX1_count 144 = .ok (.invokevirtual 350, 3) := dk_182 1 94 (dk_at dksX1_count_5 4 rfl rfl)
theorem dX1_count_147 : decode cX1_count 147 = .ok (.ireturn, 1) := dk_172 (dk_at dksX1_count_5 7 rfl rfl)
theorem dX1_count_148 : decode cX1_count 148 = .ok (.iconst (-1), 1) := dk_2 (dk_at dksX1_count_5 8 rfl rfl)
theorem dX1_count_149 : decode cX1_count 149 = .ok (.ireturn, 1) := dk_172 (dk_at dksX1_count_5 9 rfl rfl)
abbrev cX1_allMarks : ByteArray := prog_1_method_104_code
def yX1_allMarks : MethodName := ⟨RX1, "allMarks", "()I"⟩
def dkwX1_allMarks_1 : List UInt8 := [46, 184, 1, 121, 96, 60, 132, 2, 1, 167, 255, 227, 27, 172]
abbrev dktX1_allMarks_1 : List UInt8 := dkwX1_allMarks_1 ++ []
def dkwX1_allMarks_0 : List UInt8 := [3, 60, 3, 61, 28, 42, 180, 0, 10, 180, 0, 102, 162, 0, 24, 27, 42, 180, 0, 10, 180, 0, 109, 28]
abbrev dktX1_allMarks_0 : List UInt8 := dkwX1_allMarks_0 ++ dktX1_allMarks_1
theorem dksX1_allMarks_0 : cX1_allMarks.data.toList.drop 0 = dktX1_allMarks_0 := by decide +kernel
theorem dksX1_allMarks_1 : cX1_allMarks.data.toList.drop 24 = dktX1_allMarks_1 := dk_seg dksX1_allMarks_0 24 rfl rfl
theorem dX1_allMarks_0 : decode cX1_allMarks 0 = .ok (.iconst 0, 1) := dk_3 (dk_at dksX1_allMarks_0 0 rfl rfl)
theorem dX1_allMarks_1 : decode cX1_allMarks 1 = .ok (.istore_n 1, 1) := dk_60 (dk_at dksX1_allMarks_0 1 rfl rfl)
theorem dX1_allMarks_2 : decode cX1_allMarks 2 = .ok (.iconst 0, 1) := dk_3 (dk_at dksX1_allMarks_0 2 rfl rfl)
theorem dX1_allMarks_3 : decode cX1_allMarks 3 = .ok (.istore_n 2, 1) := dk_61 (dk_at dksX1_allMarks_0 3 rfl rfl)
theorem dX1_allMarks_4 : decode cX1_allMarks 4 = .ok (.iload_n 2, 1) := dk_28 (dk_at dksX1_allMarks_0 4 rfl rfl)
theorem dX1_allMarks_5 : decode cX1_allMarks 5 = .ok (.aload_n 0, 1) := dk_42 (dk_at dksX1_allMarks_0 5 rfl rfl)
theorem dX1_allMarks_6 : decode cX1_allMarks 6 = .ok (.getfield 10, 3) := dk_180 0 10 (dk_at dksX1_allMarks_0 6 rfl rfl)
theorem dX1_allMarks_9 : decode cX1_allMarks 9 = .ok (.getfield 102, 3) := dk_180 0 102 (dk_at dksX1_allMarks_0 9 rfl rfl)
theorem dX1_allMarks_12 : decode cX1_allMarks 12 = .ok (.if_icmp .ge 24, 3) := dk_162 0 24 (dk_at dksX1_allMarks_0 12 rfl rfl)
theorem dX1_allMarks_15 : decode cX1_allMarks 15 = .ok (.iload_n 1, 1) := dk_27 (dk_at dksX1_allMarks_0 15 rfl rfl)
theorem dX1_allMarks_16 : decode cX1_allMarks 16 = .ok (.aload_n 0, 1) := dk_42 (dk_at dksX1_allMarks_0 16 rfl rfl)
theorem dX1_allMarks_17 : decode cX1_allMarks 17 = .ok (.getfield 10, 3) := dk_180 0 10 (dk_at dksX1_allMarks_0 17 rfl rfl)
theorem dX1_allMarks_20 : decode cX1_allMarks 20 = .ok (.getfield 109, 3) := dk_180 0 109 (dk_at dksX1_allMarks_0 20 rfl rfl)
theorem dX1_allMarks_23 : decode cX1_allMarks 23 = .ok (.iload_n 2, 1) := dk_28 (dk_at dksX1_allMarks_0 23 rfl rfl)
theorem dX1_allMarks_24 : decode cX1_allMarks 24 = .ok (.iaload, 1) := dk_46 (dk_at dksX1_allMarks_1 0 rfl rfl)
theorem dX1_allMarks_25 : decode cX1_allMarks 25 = .ok (.invokestatic 377, 3) := dk_184 1 121 (dk_at dksX1_allMarks_1 1 rfl rfl)
theorem dX1_allMarks_28 : decode cX1_allMarks 28 = .ok (.iadd, 1) := dk_96 (dk_at dksX1_allMarks_1 4 rfl rfl)
theorem dX1_allMarks_29 : decode cX1_allMarks 29 = .ok (.istore_n 1, 1) := dk_60 (dk_at dksX1_allMarks_1 5 rfl rfl)
theorem dX1_allMarks_30 : decode cX1_allMarks 30 = .ok (.iinc 2 1, 3) := dk_132 2 1 (dk_at dksX1_allMarks_1 6 rfl rfl)
theorem dX1_allMarks_33 : decode cX1_allMarks 33 = .ok (.goto (-29), 3) := dk_167 255 227 (dk_at dksX1_allMarks_1 9 rfl rfl)
theorem dX1_allMarks_36 : decode cX1_allMarks 36 = .ok (.iload_n 1, 1) := dk_27 (dk_at dksX1_allMarks_1 12 rfl rfl)
theorem dX1_allMarks_37 : decode cX1_allMarks 37 = .ok (.ireturn, 1) := dk_172 (dk_at dksX1_allMarks_1 13 rfl rfl)
abbrev cX1_door : ByteArray := prog_1_method_19_code
def yX1_door : MethodName := ⟨RX1, "door", "()I"⟩
def dkwX1_door_4 : List UInt8 := [42, 180, 0, 10, 180, 0, 248, 172]
abbrev dktX1_door_4 : List UInt8 := dkwX1_door_4 ++ []
def dkwX1_door_3 : List UInt8 := [4, 96, 181, 0, 248, 42, 180, 0, 10, 42, 180, 0, 16, 182, 0, 236, 87, 42, 180, 0, 39, 182, 0, 254]
abbrev dktX1_door_3 : List UInt8 := dkwX1_door_3 ++ dktX1_door_4
def dkwX1_door_2 : List UInt8 := [180, 0, 248, 16, 12, 160, 0, 11, 187, 0, 251, 89, 183, 0, 253, 191, 42, 180, 0, 16, 89, 180, 0, 248]
abbrev dktX1_door_2 : List UInt8 := dkwX1_door_2 ++ dktX1_door_3
def dkwX1_door_1 : List UInt8 := [182, 0, 240, 42, 180, 0, 25, 2, 181, 0, 77, 167, 0, 8, 76, 42, 182, 0, 245, 42, 180, 0, 10]
abbrev dktX1_door_1 : List UInt8 := dkwX1_door_1 ++ dktX1_door_2
def dkwX1_door_0 : List UInt8 := [42, 180, 0, 25, 182, 0, 233, 42, 180, 0, 16, 42, 180, 0, 10, 182, 0, 236, 87, 42, 42, 180, 0, 16]
abbrev dktX1_door_0 : List UInt8 := dkwX1_door_0 ++ dktX1_door_1
theorem dksX1_door_0 : cX1_door.data.toList.drop 0 = dktX1_door_0 := by decide +kernel
theorem dksX1_door_1 : cX1_door.data.toList.drop 24 = dktX1_door_1 := dk_seg dksX1_door_0 24 rfl rfl
theorem dksX1_door_2 : cX1_door.data.toList.drop 47 = dktX1_door_2 := dk_seg dksX1_door_1 23 rfl rfl
theorem dksX1_door_3 : cX1_door.data.toList.drop 71 = dktX1_door_3 := dk_seg dksX1_door_2 24 rfl rfl
theorem dksX1_door_4 : cX1_door.data.toList.drop 95 = dktX1_door_4 := dk_seg dksX1_door_3 24 rfl rfl
theorem dX1_door_0 : decode cX1_door 0 = .ok (.aload_n 0, 1) := dk_42 (dk_at dksX1_door_0 0 rfl rfl)
theorem dX1_door_1 : decode cX1_door 1 = .ok (.getfield 25, 3) := dk_180 0 25 (dk_at dksX1_door_0 1 rfl rfl)
theorem dX1_door_4 : decode cX1_door 4 = .ok (.invokevirtual 233, 3) := dk_182 0 233 (dk_at dksX1_door_0 4 rfl rfl)
theorem dX1_door_7 : decode cX1_door 7 = .ok (.aload_n 0, 1) := dk_42 (dk_at dksX1_door_0 7 rfl rfl)
theorem dX1_door_8 : decode cX1_door 8 = .ok (.getfield 16, 3) := dk_180 0 16 (dk_at dksX1_door_0 8 rfl rfl)
theorem dX1_door_11 : decode cX1_door 11 = .ok (.aload_n 0, 1) := dk_42 (dk_at dksX1_door_0 11 rfl rfl)
theorem dX1_door_12 : decode cX1_door 12 = .ok (.getfield 10, 3) := dk_180 0 10 (dk_at dksX1_door_0 12 rfl rfl)
theorem dX1_door_15 : decode cX1_door 15 = .ok (.invokevirtual 236, 3) := dk_182 0 236 (dk_at dksX1_door_0 15 rfl rfl)
theorem dX1_door_18 : decode cX1_door 18 = .ok (.pop, 1) := dk_87 (dk_at dksX1_door_0 18 rfl rfl)
theorem dX1_door_19 : decode cX1_door 19 = .ok (.aload_n 0, 1) := dk_42 (dk_at dksX1_door_0 19 rfl rfl)
theorem dX1_door_20 : decode cX1_door 20 = .ok (.aload_n 0, 1) := dk_42 (dk_at dksX1_door_0 20 rfl rfl)
theorem dX1_door_21 : decode cX1_door 21 = .ok (.getfield 16, 3) := dk_180 0 16 (dk_at dksX1_door_0 21 rfl rfl)
theorem dX1_door_24 : decode cX1_door 24 = .ok (.invokevirtual 240, 3) := dk_182 0 240 (dk_at dksX1_door_1 0 rfl rfl)
theorem dX1_door_27 : decode cX1_door 27 = .ok (.aload_n 0, 1) := dk_42 (dk_at dksX1_door_1 3 rfl rfl)
theorem dX1_door_28 : decode cX1_door 28 = .ok (.getfield 25, 3) := dk_180 0 25 (dk_at dksX1_door_1 4 rfl rfl)
theorem dX1_door_31 : decode cX1_door 31 = .ok (.iconst (-1), 1) := dk_2 (dk_at dksX1_door_1 7 rfl rfl)
theorem dX1_door_32 : decode cX1_door 32 = .ok (.putfield 77, 3) := dk_181 0 77 (dk_at dksX1_door_1 8 rfl rfl)
theorem dX1_door_35 : decode cX1_door 35 = .ok (.goto 8, 3) := dk_167 0 8 (dk_at dksX1_door_1 11 rfl rfl)
theorem dX1_door_38 : decode cX1_door 38 = .ok (.astore_n 1, 1) := dk_76 (dk_at dksX1_door_1 14 rfl rfl)
theorem dX1_door_39 : decode cX1_door 39 = .ok (.aload_n 0, 1) := dk_42 (dk_at dksX1_door_1 15 rfl rfl)
theorem dX1_door_40 : decode cX1_door 40 = .ok (.invokevirtual 245, 3) := dk_182 0 245 (dk_at dksX1_door_1 16 rfl rfl)
theorem dX1_door_43 : decode cX1_door 43 = .ok (.aload_n 0, 1) := dk_42 (dk_at dksX1_door_1 19 rfl rfl)
theorem dX1_door_44 : decode cX1_door 44 = .ok (.getfield 10, 3) := dk_180 0 10 (dk_at dksX1_door_1 20 rfl rfl)
theorem dX1_door_47 : decode cX1_door 47 = .ok (.getfield 248, 3) := dk_180 0 248 (dk_at dksX1_door_2 0 rfl rfl)
theorem dX1_door_50 : decode cX1_door 50 = .ok (.bipush 12, 2) := dk_16 12 (dk_at dksX1_door_2 3 rfl rfl)
theorem dX1_door_52 : decode cX1_door 52 = .ok (.if_icmp .ne 11, 3) := dk_160 0 11 (dk_at dksX1_door_2 5 rfl rfl)
theorem dX1_door_55 : decode cX1_door 55 = .ok (.new 251, 3) := dk_187 0 251 (dk_at dksX1_door_2 8 rfl rfl)
theorem dX1_door_58 : decode cX1_door 58 = .ok (.dup, 1) := dk_89 (dk_at dksX1_door_2 11 rfl rfl)
theorem dX1_door_59 : decode cX1_door 59 = .ok (.invokespecial 253, 3) := dk_183 0 253 (dk_at dksX1_door_2 12 rfl rfl)
theorem dX1_door_62 : decode cX1_door 62 = .ok (.athrow, 1) := dk_191 (dk_at dksX1_door_2 15 rfl rfl)
theorem dX1_door_63 : decode cX1_door 63 = .ok (.aload_n 0, 1) := dk_42 (dk_at dksX1_door_2 16 rfl rfl)
theorem dX1_door_64 : decode cX1_door 64 = .ok (.getfield 16, 3) := dk_180 0 16 (dk_at dksX1_door_2 17 rfl rfl)
theorem dX1_door_67 : decode cX1_door 67 = .ok (.dup, 1) := dk_89 (dk_at dksX1_door_2 20 rfl rfl)
theorem dX1_door_68 : decode cX1_door 68 = .ok (.getfield 248, 3) := dk_180 0 248 (dk_at dksX1_door_2 21 rfl rfl)
theorem dX1_door_71 : decode cX1_door 71 = .ok (.iconst 1, 1) := dk_4 (dk_at dksX1_door_3 0 rfl rfl)
theorem dX1_door_72 : decode cX1_door 72 = .ok (.iadd, 1) := dk_96 (dk_at dksX1_door_3 1 rfl rfl)
theorem dX1_door_73 : decode cX1_door 73 = .ok (.putfield 248, 3) := dk_181 0 248 (dk_at dksX1_door_3 2 rfl rfl)
theorem dX1_door_76 : decode cX1_door 76 = .ok (.aload_n 0, 1) := dk_42 (dk_at dksX1_door_3 5 rfl rfl)
theorem dX1_door_77 : decode cX1_door 77 = .ok (.getfield 10, 3) := dk_180 0 10 (dk_at dksX1_door_3 6 rfl rfl)
theorem dX1_door_80 : decode cX1_door 80 = .ok (.aload_n 0, 1) := dk_42 (dk_at dksX1_door_3 9 rfl rfl)
theorem dX1_door_81 : decode cX1_door 81 = .ok (.getfield 16, 3) := dk_180 0 16 (dk_at dksX1_door_3 10 rfl rfl)
theorem dX1_door_84 : decode cX1_door 84 = .ok (.invokevirtual 236, 3) := dk_182 0 236 (dk_at dksX1_door_3 13 rfl rfl)
theorem dX1_door_87 : decode cX1_door 87 = .ok (.pop, 1) := dk_87 (dk_at dksX1_door_3 16 rfl rfl)
theorem dX1_door_88 : decode cX1_door 88 = .ok (.aload_n 0, 1) := dk_42 (dk_at dksX1_door_3 17 rfl rfl)
theorem dX1_door_89 : decode cX1_door 89 = .ok (.getfield 39, 3) := dk_180 0 39 (dk_at dksX1_door_3 18 rfl rfl)
theorem dX1_door_92 : decode cX1_door 92 = .ok (.invokevirtual 254, 3) := dk_182 0 254 (dk_at dksX1_door_3 21 rfl rfl)
theorem dX1_door_95 : decode cX1_door 95 = .ok (.aload_n 0, 1) := dk_42 (dk_at dksX1_door_4 0 rfl rfl)
theorem dX1_door_96 : decode cX1_door 96 = .ok (.getfield 10, 3) := dk_180 0 10 (dk_at dksX1_door_4 1 rfl rfl)
theorem dX1_door_99 : decode cX1_door 99 = .ok (.getfield 248, 3) := dk_180 0 248 (dk_at dksX1_door_4 4 rfl rfl)
theorem dX1_door_102 : decode cX1_door 102 = .ok (.ireturn, 1) := dk_172 (dk_at dksX1_door_4 7 rfl rfl)
abbrev cX1_doorText : ByteArray := prog_1_method_15_code
def yX1_doorText : MethodName := ⟨RX1, "doorText", "(LHungFaces$World;)V"⟩
def dkwX1_doorText_1 : List UInt8 := [182, 0, 221, 132, 2, 1, 42, 182, 0, 224, 154, 255, 237, 177]
abbrev dktX1_doorText_1 : List UInt8 := dkwX1_doorText_1 ++ []
def dkwX1_doorText_0 : List UInt8 := [42, 180, 0, 25, 182, 0, 214, 153, 0, 4, 177, 3, 61, 42, 28, 16, 14, 182, 0, 217, 42, 43]
abbrev dktX1_doorText_0 : List UInt8 := dkwX1_doorText_0 ++ dktX1_doorText_1
theorem dksX1_doorText_0 : cX1_doorText.data.toList.drop 0 = dktX1_doorText_0 := by decide +kernel
theorem dksX1_doorText_1 : cX1_doorText.data.toList.drop 22 = dktX1_doorText_1 := dk_seg dksX1_doorText_0 22 rfl rfl
theorem dX1_doorText_0 : decode cX1_doorText 0 = .ok (.aload_n 0, 1) := dk_42 (dk_at dksX1_doorText_0 0 rfl rfl)
theorem dX1_doorText_1 : decode cX1_doorText 1 = .ok (.getfield 25, 3) := dk_180 0 25 (dk_at dksX1_doorText_0 1 rfl rfl)
theorem dX1_doorText_4 : decode cX1_doorText 4 = .ok (.invokevirtual 214, 3) := dk_182 0 214 (dk_at dksX1_doorText_0 4 rfl rfl)
theorem dX1_doorText_7 : decode cX1_doorText 7 = .ok (.ifCond .eq 4, 3) := dk_153 0 4 (dk_at dksX1_doorText_0 7 rfl rfl)
theorem dX1_doorText_10 : decode cX1_doorText 10 = .ok (.return_, 1) := dk_177 (dk_at dksX1_doorText_0 10 rfl rfl)
theorem dX1_doorText_11 : decode cX1_doorText 11 = .ok (.iconst 0, 1) := dk_3 (dk_at dksX1_doorText_0 11 rfl rfl)
theorem dX1_doorText_12 : decode cX1_doorText 12 = .ok (.istore_n 2, 1) := dk_61 (dk_at dksX1_doorText_0 12 rfl rfl)
theorem dX1_doorText_13 : decode cX1_doorText 13 = .ok (.aload_n 0, 1) := dk_42 (dk_at dksX1_doorText_0 13 rfl rfl)
theorem dX1_doorText_14 : decode cX1_doorText 14 = .ok (.iload_n 2, 1) := dk_28 (dk_at dksX1_doorText_0 14 rfl rfl)
theorem dX1_doorText_15 : decode cX1_doorText 15 = .ok (.bipush 14, 2) := dk_16 14 (dk_at dksX1_doorText_0 15 rfl rfl)
theorem dX1_doorText_17 : decode cX1_doorText 17 = .ok (.invokevirtual 217, 3) := dk_182 0 217 (dk_at dksX1_doorText_0 17 rfl rfl)
theorem dX1_doorText_20 : decode cX1_doorText 20 = .ok (.aload_n 0, 1) := dk_42 (dk_at dksX1_doorText_0 20 rfl rfl)
theorem dX1_doorText_21 : decode cX1_doorText 21 = .ok (.aload_n 1, 1) := dk_43 (dk_at dksX1_doorText_0 21 rfl rfl)
theorem dX1_doorText_22 : decode cX1_doorText 22 = .ok (.invokevirtual 221, 3) := dk_182 0 221 (dk_at dksX1_doorText_1 0 rfl rfl)
theorem dX1_doorText_25 : decode cX1_doorText 25 = .ok (.iinc 2 1, 3) := dk_132 2 1 (dk_at dksX1_doorText_1 3 rfl rfl)
theorem dX1_doorText_28 : decode cX1_doorText 28 = .ok (.aload_n 0, 1) := dk_42 (dk_at dksX1_doorText_1 6 rfl rfl)
theorem dX1_doorText_29 : decode cX1_doorText 29 = .ok (.invokevirtual 224, 3) := dk_182 0 224 (dk_at dksX1_doorText_1 7 rfl rfl)
theorem dX1_doorText_32 : decode cX1_doorText 32 = .ok (.ifCond .ne (-19), 3) := dk_154 255 237 (dk_at dksX1_doorText_1 10 rfl rfl)
theorem dX1_doorText_35 : decode cX1_doorText 35 = .ok (.return_, 1) := dk_177 (dk_at dksX1_doorText_1 13 rfl rfl)
abbrev cX1_noMore : ByteArray := prog_1_method_16_code
def yX1_noMore : MethodName := ⟨RX1, "noMore", "(II)V"⟩
def dkwX1_noMore_0 : List UInt8 := [27, 28, 162, 0, 4, 177, 42, 180, 0, 25, 182, 0, 169, 87, 42, 180, 0, 25, 182, 0, 98, 191]
abbrev dktX1_noMore_0 : List UInt8 := dkwX1_noMore_0 ++ []
theorem dksX1_noMore_0 : cX1_noMore.data.toList.drop 0 = dktX1_noMore_0 := by decide +kernel
theorem dX1_noMore_0 : decode cX1_noMore 0 = .ok (.iload_n 1, 1) := dk_27 (dk_at dksX1_noMore_0 0 rfl rfl)
theorem dX1_noMore_1 : decode cX1_noMore 1 = .ok (.iload_n 2, 1) := dk_28 (dk_at dksX1_noMore_0 1 rfl rfl)
theorem dX1_noMore_2 : decode cX1_noMore 2 = .ok (.if_icmp .ge 4, 3) := dk_162 0 4 (dk_at dksX1_noMore_0 2 rfl rfl)
theorem dX1_noMore_5 : decode cX1_noMore 5 = .ok (.return_, 1) := dk_177 (dk_at dksX1_noMore_0 5 rfl rfl)
theorem dX1_noMore_6 : decode cX1_noMore 6 = .ok (.aload_n 0, 1) := dk_42 (dk_at dksX1_noMore_0 6 rfl rfl)
theorem dX1_noMore_7 : decode cX1_noMore 7 = .ok (.getfield 25, 3) := dk_180 0 25 (dk_at dksX1_noMore_0 7 rfl rfl)
theorem dX1_noMore_10 : decode cX1_noMore 10 = .ok (.invokevirtual 169, 3) := dk_182 0 169 (dk_at dksX1_noMore_0 10 rfl rfl)
theorem dX1_noMore_13 : decode cX1_noMore 13 = .ok (.pop, 1) := dk_87 (dk_at dksX1_noMore_0 13 rfl rfl)
theorem dX1_noMore_14 : decode cX1_noMore 14 = .ok (.aload_n 0, 1) := dk_42 (dk_at dksX1_noMore_0 14 rfl rfl)
theorem dX1_noMore_15 : decode cX1_noMore 15 = .ok (.getfield 25, 3) := dk_180 0 25 (dk_at dksX1_noMore_0 15 rfl rfl)
theorem dX1_noMore_18 : decode cX1_noMore 18 = .ok (.invokevirtual 98, 3) := dk_182 0 98 (dk_at dksX1_noMore_0 18 rfl rfl)
theorem dX1_noMore_21 : decode cX1_noMore 21 = .ok (.athrow, 1) := dk_191 (dk_at dksX1_noMore_0 21 rfl rfl)
abbrev cX1_doorLine : ByteArray := prog_1_method_14_code
def yX1_doorLine : MethodName := ⟨RX1, "doorLine", "(LHungFaces$World;)V"⟩
def dkwX1_doorLine_10 : List UInt8 := [182, 0, 105, 181, 0, 212, 177, 44, 182, 0, 98, 191]
abbrev dktX1_doorLine_10 : List UInt8 := dkwX1_doorLine_10 ++ []
def dkwX1_doorLine_9 : List UInt8 := [42, 43, 182, 0, 207, 177, 43, 44, 3, 16, 100, 182, 0, 105, 181, 0, 210, 177, 43, 44, 3, 16, 100]
abbrev dktX1_doorLine_9 : List UInt8 := dkwX1_doorLine_9 ++ dktX1_doorLine_10
def dkwX1_doorLine_8 : List UInt8 := [42, 43, 182, 0, 194, 177, 42, 43, 182, 0, 198, 177, 42, 43, 182, 0, 201, 177, 42, 43, 182, 0, 204, 177]
abbrev dktX1_doorLine_8 : List UInt8 := dkwX1_doorLine_8 ++ dktX1_doorLine_9
def dkwX1_doorLine_7 : List UInt8 := [170, 0, 0, 0, 0, 0, 97, 0, 0, 0, 0, 0, 0, 0, 6, 0, 0, 0, 43, 0, 0, 0, 49, 0, 0, 0, 55, 0, 0, 0, 61, 0, 0, 0, 67, 0, 0, 0, 73, 0, 0, 0, 85]
abbrev dktX1_doorLine_7 : List UInt8 := dkwX1_doorLine_7 ++ dktX1_doorLine_8
def dkwX1_doorLine_6 : List UInt8 := [153, 0, 7, 16, 6, 54, 4, 21, 4]
abbrev dktX1_doorLine_6 : List UInt8 := dkwX1_doorLine_6 ++ dktX1_doorLine_7
def dkwX1_doorLine_5 : List UInt8 := [167, 0, 31, 45, 18, 190, 182, 0, 180, 153, 0, 22, 8, 54, 4, 167, 0, 16, 45, 18, 192, 182, 0, 180]
abbrev dktX1_doorLine_5 : List UInt8 := dkwX1_doorLine_5 ++ dktX1_doorLine_6
def dkwX1_doorLine_4 : List UInt8 := [182, 0, 180, 153, 0, 52, 6, 54, 4, 167, 0, 46, 45, 18, 189, 182, 0, 180, 153, 0, 37, 7, 54, 4]
abbrev dktX1_doorLine_4 : List UInt8 := dkwX1_doorLine_4 ++ dktX1_doorLine_5
def dkwX1_doorLine_3 : List UInt8 := [4, 54, 4, 167, 0, 76, 45, 18, 186, 182, 0, 180, 153, 0, 67, 5, 54, 4, 167, 0, 61, 45, 18, 188]
abbrev dktX1_doorLine_3 : List UInt8 := dkwX1_doorLine_3 ++ dktX1_doorLine_4
def dkwX1_doorLine_2 : List UInt8 := [45, 18, 178, 182, 0, 180, 153, 0, 97, 3, 54, 4, 167, 0, 91, 45, 18, 184, 182, 0, 180, 153, 0, 82]
abbrev dktX1_doorLine_2 : List UInt8 := dkwX1_doorLine_2 ++ dktX1_doorLine_3
def dkwX1_doorLine_1 : List UInt8 := [171, 0, 0, 0, 0, 0, 170, 0, 0, 0, 7, 196, 227, 155, 85, 0, 0, 0, 67, 0, 1, 166, 92, 0, 0, 0, 142, 0, 1, 203, 86, 0, 0, 0, 97, 0, 55, 176, 167, 0, 0, 0, 82, 5, 237, 175, 176, 0, 0, 0, 127, 6, 23, 131, 72, 0, 0, 0, 112, 6, 147, 131, 214, 0, 0, 0, 157]
abbrev dktX1_doorLine_1 : List UInt8 := dkwX1_doorLine_1 ++ dktX1_doorLine_2
def dkwX1_doorLine_0 : List UInt8 := [42, 180, 0, 25, 77, 44, 182, 0, 169, 78, 2, 54, 4, 45, 182, 0, 173]
abbrev dktX1_doorLine_0 : List UInt8 := dkwX1_doorLine_0 ++ dktX1_doorLine_1
theorem dksX1_doorLine_0 : cX1_doorLine.data.toList.drop 0 = dktX1_doorLine_0 := by decide +kernel
theorem dksX1_doorLine_1 : cX1_doorLine.data.toList.drop 17 = dktX1_doorLine_1 := dk_seg dksX1_doorLine_0 17 rfl rfl
theorem dksX1_doorLine_2 : cX1_doorLine.data.toList.drop 84 = dktX1_doorLine_2 := dk_seg dksX1_doorLine_1 67 rfl rfl
theorem dksX1_doorLine_3 : cX1_doorLine.data.toList.drop 108 = dktX1_doorLine_3 := dk_seg dksX1_doorLine_2 24 rfl rfl
theorem dksX1_doorLine_4 : cX1_doorLine.data.toList.drop 132 = dktX1_doorLine_4 := dk_seg dksX1_doorLine_3 24 rfl rfl
theorem dksX1_doorLine_5 : cX1_doorLine.data.toList.drop 156 = dktX1_doorLine_5 := dk_seg dksX1_doorLine_4 24 rfl rfl
theorem dksX1_doorLine_6 : cX1_doorLine.data.toList.drop 180 = dktX1_doorLine_6 := dk_seg dksX1_doorLine_5 24 rfl rfl
theorem dksX1_doorLine_7 : cX1_doorLine.data.toList.drop 189 = dktX1_doorLine_7 := dk_seg dksX1_doorLine_6 9 rfl rfl
theorem dksX1_doorLine_8 : cX1_doorLine.data.toList.drop 232 = dktX1_doorLine_8 := dk_seg dksX1_doorLine_7 43 rfl rfl
theorem dksX1_doorLine_9 : cX1_doorLine.data.toList.drop 256 = dktX1_doorLine_9 := dk_seg dksX1_doorLine_8 24 rfl rfl
theorem dksX1_doorLine_10 : cX1_doorLine.data.toList.drop 279 = dktX1_doorLine_10 := dk_seg dksX1_doorLine_9 23 rfl rfl
theorem dX1_doorLine_0 : decode cX1_doorLine 0 = .ok (.aload_n 0, 1) := dk_42 (dk_at dksX1_doorLine_0 0 rfl rfl)
theorem dX1_doorLine_1 : decode cX1_doorLine 1 = .ok (.getfield 25, 3) := dk_180 0 25 (dk_at dksX1_doorLine_0 1 rfl rfl)
theorem dX1_doorLine_4 : decode cX1_doorLine 4 = .ok (.astore_n 2, 1) := dk_77 (dk_at dksX1_doorLine_0 4 rfl rfl)
theorem dX1_doorLine_5 : decode cX1_doorLine 5 = .ok (.aload_n 2, 1) := dk_44 (dk_at dksX1_doorLine_0 5 rfl rfl)
theorem dX1_doorLine_6 : decode cX1_doorLine 6 = .ok (.invokevirtual 169, 3) := dk_182 0 169 (dk_at dksX1_doorLine_0 6 rfl rfl)
theorem dX1_doorLine_9 : decode cX1_doorLine 9 = .ok (.astore_n 3, 1) := dk_78 (dk_at dksX1_doorLine_0 9 rfl rfl)
theorem dX1_doorLine_10 : decode cX1_doorLine 10 = .ok (.iconst (-1), 1) := dk_2 (dk_at dksX1_doorLine_0 10 rfl rfl)
theorem dX1_doorLine_11 : decode cX1_doorLine 11 = .ok (.istore 4, 2) := dk_54 4 (dk_at dksX1_doorLine_0 11 rfl rfl)
theorem dX1_doorLine_13 : decode cX1_doorLine 13 = .ok (.aload_n 3, 1) := dk_45 (dk_at dksX1_doorLine_0 13 rfl rfl)
theorem dX1_doorLine_14 : decode cX1_doorLine 14 = .ok (.invokevirtual 173, 3) := dk_182 0 173 (dk_at dksX1_doorLine_0 14 rfl rfl)
theorem dX1_doorLine_17 : decode cX1_doorLine 17 = .ok (.lookupswitch 170 #[(-991716523, 67), (108124, 142), (117590, 97), (3649703, 82), (99463088, 127), (102204232, 112), (110330838, 157)], 67) := by decide +kernel
theorem dX1_doorLine_84 : decode cX1_doorLine 84 = .ok (.aload_n 3, 1) := dk_45 (dk_at dksX1_doorLine_2 0 rfl rfl)
theorem dX1_doorLine_85 : decode cX1_doorLine 85 = .ok (.ldc 178, 2) := dk_18 178 (dk_at dksX1_doorLine_2 1 rfl rfl)
theorem dX1_doorLine_87 : decode cX1_doorLine 87 = .ok (.invokevirtual 180, 3) := dk_182 0 180 (dk_at dksX1_doorLine_2 3 rfl rfl)
theorem dX1_doorLine_90 : decode cX1_doorLine 90 = .ok (.ifCond .eq 97, 3) := dk_153 0 97 (dk_at dksX1_doorLine_2 6 rfl rfl)
theorem dX1_doorLine_93 : decode cX1_doorLine 93 = .ok (.iconst 0, 1) := dk_3 (dk_at dksX1_doorLine_2 9 rfl rfl)
theorem dX1_doorLine_94 : decode cX1_doorLine 94 = .ok (.istore 4, 2) := dk_54 4 (dk_at dksX1_doorLine_2 10 rfl rfl)
theorem dX1_doorLine_96 : decode cX1_doorLine 96 = .ok (.goto 91, 3) := dk_167 0 91 (dk_at dksX1_doorLine_2 12 rfl rfl)
theorem dX1_doorLine_99 : decode cX1_doorLine 99 = .ok (.aload_n 3, 1) := dk_45 (dk_at dksX1_doorLine_2 15 rfl rfl)
theorem dX1_doorLine_100 : decode cX1_doorLine 100 = .ok (.ldc 184, 2) := dk_18 184 (dk_at dksX1_doorLine_2 16 rfl rfl)
theorem dX1_doorLine_102 : decode cX1_doorLine 102 = .ok (.invokevirtual 180, 3) := dk_182 0 180 (dk_at dksX1_doorLine_2 18 rfl rfl)
theorem dX1_doorLine_105 : decode cX1_doorLine 105 = .ok (.ifCond .eq 82, 3) := dk_153 0 82 (dk_at dksX1_doorLine_2 21 rfl rfl)
theorem dX1_doorLine_108 : decode cX1_doorLine 108 = .ok (.iconst 1, 1) := dk_4 (dk_at dksX1_doorLine_3 0 rfl rfl)
theorem dX1_doorLine_109 : decode cX1_doorLine 109 = .ok (.istore 4, 2) := dk_54 4 (dk_at dksX1_doorLine_3 1 rfl rfl)
theorem dX1_doorLine_111 : decode cX1_doorLine 111 = .ok (.goto 76, 3) := dk_167 0 76 (dk_at dksX1_doorLine_3 3 rfl rfl)
theorem dX1_doorLine_114 : decode cX1_doorLine 114 = .ok (.aload_n 3, 1) := dk_45 (dk_at dksX1_doorLine_3 6 rfl rfl)
theorem dX1_doorLine_115 : decode cX1_doorLine 115 = .ok (.ldc 186, 2) := dk_18 186 (dk_at dksX1_doorLine_3 7 rfl rfl)
theorem dX1_doorLine_117 : decode cX1_doorLine 117 = .ok (.invokevirtual 180, 3) := dk_182 0 180 (dk_at dksX1_doorLine_3 9 rfl rfl)
theorem dX1_doorLine_120 : decode cX1_doorLine 120 = .ok (.ifCond .eq 67, 3) := dk_153 0 67 (dk_at dksX1_doorLine_3 12 rfl rfl)
theorem dX1_doorLine_123 : decode cX1_doorLine 123 = .ok (.iconst 2, 1) := dk_5 (dk_at dksX1_doorLine_3 15 rfl rfl)
theorem dX1_doorLine_124 : decode cX1_doorLine 124 = .ok (.istore 4, 2) := dk_54 4 (dk_at dksX1_doorLine_3 16 rfl rfl)
theorem dX1_doorLine_126 : decode cX1_doorLine 126 = .ok (.goto 61, 3) := dk_167 0 61 (dk_at dksX1_doorLine_3 18 rfl rfl)
theorem dX1_doorLine_129 : decode cX1_doorLine 129 = .ok (.aload_n 3, 1) := dk_45 (dk_at dksX1_doorLine_3 21 rfl rfl)
theorem dX1_doorLine_130 : decode cX1_doorLine 130 = .ok (.ldc 188, 2) := dk_18 188 (dk_at dksX1_doorLine_3 22 rfl rfl)
theorem dX1_doorLine_132 : decode cX1_doorLine 132 = .ok (.invokevirtual 180, 3) := dk_182 0 180 (dk_at dksX1_doorLine_4 0 rfl rfl)
theorem dX1_doorLine_135 : decode cX1_doorLine 135 = .ok (.ifCond .eq 52, 3) := dk_153 0 52 (dk_at dksX1_doorLine_4 3 rfl rfl)
theorem dX1_doorLine_138 : decode cX1_doorLine 138 = .ok (.iconst 3, 1) := dk_6 (dk_at dksX1_doorLine_4 6 rfl rfl)
theorem dX1_doorLine_139 : decode cX1_doorLine 139 = .ok (.istore 4, 2) := dk_54 4 (dk_at dksX1_doorLine_4 7 rfl rfl)
theorem dX1_doorLine_141 : decode cX1_doorLine 141 = .ok (.goto 46, 3) := dk_167 0 46 (dk_at dksX1_doorLine_4 9 rfl rfl)
theorem dX1_doorLine_144 : decode cX1_doorLine 144 = .ok (.aload_n 3, 1) := dk_45 (dk_at dksX1_doorLine_4 12 rfl rfl)
theorem dX1_doorLine_145 : decode cX1_doorLine 145 = .ok (.ldc 189, 2) := dk_18 189 (dk_at dksX1_doorLine_4 13 rfl rfl)
theorem dX1_doorLine_147 : decode cX1_doorLine 147 = .ok (.invokevirtual 180, 3) := dk_182 0 180 (dk_at dksX1_doorLine_4 15 rfl rfl)
theorem dX1_doorLine_150 : decode cX1_doorLine 150 = .ok (.ifCond .eq 37, 3) := dk_153 0 37 (dk_at dksX1_doorLine_4 18 rfl rfl)
theorem dX1_doorLine_153 : decode cX1_doorLine 153 = .ok (.iconst 4, 1) := dk_7 (dk_at dksX1_doorLine_4 21 rfl rfl)
theorem dX1_doorLine_154 : decode cX1_doorLine 154 = .ok (.istore 4, 2) := dk_54 4 (dk_at dksX1_doorLine_4 22 rfl rfl)
theorem dX1_doorLine_156 : decode cX1_doorLine 156 = .ok (.goto 31, 3) := dk_167 0 31 (dk_at dksX1_doorLine_5 0 rfl rfl)
theorem dX1_doorLine_159 : decode cX1_doorLine 159 = .ok (.aload_n 3, 1) := dk_45 (dk_at dksX1_doorLine_5 3 rfl rfl)
theorem dX1_doorLine_160 : decode cX1_doorLine 160 = .ok (.ldc 190, 2) := dk_18 190 (dk_at dksX1_doorLine_5 4 rfl rfl)
theorem dX1_doorLine_162 : decode cX1_doorLine 162 = .ok (.invokevirtual 180, 3) := dk_182 0 180 (dk_at dksX1_doorLine_5 6 rfl rfl)
theorem dX1_doorLine_165 : decode cX1_doorLine 165 = .ok (.ifCond .eq 22, 3) := dk_153 0 22 (dk_at dksX1_doorLine_5 9 rfl rfl)
theorem dX1_doorLine_168 : decode cX1_doorLine 168 = .ok (.iconst 5, 1) := dk_8 (dk_at dksX1_doorLine_5 12 rfl rfl)
theorem dX1_doorLine_169 : decode cX1_doorLine 169 = .ok (.istore 4, 2) := dk_54 4 (dk_at dksX1_doorLine_5 13 rfl rfl)
theorem dX1_doorLine_171 : decode cX1_doorLine 171 = .ok (.goto 16, 3) := dk_167 0 16 (dk_at dksX1_doorLine_5 15 rfl rfl)
theorem dX1_doorLine_174 : decode cX1_doorLine 174 = .ok (.aload_n 3, 1) := dk_45 (dk_at dksX1_doorLine_5 18 rfl rfl)
theorem dX1_doorLine_175 : decode cX1_doorLine 175 = .ok (.ldc 192, 2) := dk_18 192 (dk_at dksX1_doorLine_5 19 rfl rfl)
theorem dX1_doorLine_177 : decode cX1_doorLine 177 = .ok (.invokevirtual 180, 3) := dk_182 0 180 (dk_at dksX1_doorLine_5 21 rfl rfl)
theorem dX1_doorLine_180 : decode cX1_doorLine 180 = .ok (.ifCond .eq 7, 3) := dk_153 0 7 (dk_at dksX1_doorLine_6 0 rfl rfl)
theorem dX1_doorLine_183 : decode cX1_doorLine 183 = .ok (.bipush 6, 2) := dk_16 6 (dk_at dksX1_doorLine_6 3 rfl rfl)
theorem dX1_doorLine_185 : decode cX1_doorLine 185 = .ok (.istore 4, 2) := dk_54 4 (dk_at dksX1_doorLine_6 5 rfl rfl)
theorem dX1_doorLine_187 : decode cX1_doorLine 187 = .ok (.iload 4, 2) := dk_21 4 (dk_at dksX1_doorLine_6 7 rfl rfl)
theorem dX1_doorLine_189 : decode cX1_doorLine 189 = .ok (.tableswitch 97 0 6 #[43, 49, 55, 61, 67, 73, 85], 43) := by decide +kernel
theorem dX1_doorLine_232 : decode cX1_doorLine 232 = .ok (.aload_n 0, 1) := dk_42 (dk_at dksX1_doorLine_8 0 rfl rfl)
theorem dX1_doorLine_233 : decode cX1_doorLine 233 = .ok (.aload_n 1, 1) := dk_43 (dk_at dksX1_doorLine_8 1 rfl rfl)
theorem dX1_doorLine_234 : decode cX1_doorLine 234 = .ok (.invokevirtual 194, 3) := dk_182 0 194 (dk_at dksX1_doorLine_8 2 rfl rfl)
theorem dX1_doorLine_237 : decode cX1_doorLine 237 = .ok (.return_, 1) := dk_177 (dk_at dksX1_doorLine_8 5 rfl rfl)
theorem dX1_doorLine_238 : decode cX1_doorLine 238 = .ok (.aload_n 0, 1) := dk_42 (dk_at dksX1_doorLine_8 6 rfl rfl)
theorem dX1_doorLine_239 : decode cX1_doorLine 239 = .ok (.aload_n 1, 1) := dk_43 (dk_at dksX1_doorLine_8 7 rfl rfl)
theorem dX1_doorLine_240 : decode cX1_doorLine 240 = .ok (.invokevirtual 198, 3) := dk_182 0 198 (dk_at dksX1_doorLine_8 8 rfl rfl)
theorem dX1_doorLine_243 : decode cX1_doorLine 243 = .ok (.return_, 1) := dk_177 (dk_at dksX1_doorLine_8 11 rfl rfl)
theorem dX1_doorLine_244 : decode cX1_doorLine 244 = .ok (.aload_n 0, 1) := dk_42 (dk_at dksX1_doorLine_8 12 rfl rfl)
theorem dX1_doorLine_245 : decode cX1_doorLine 245 = .ok (.aload_n 1, 1) := dk_43 (dk_at dksX1_doorLine_8 13 rfl rfl)
theorem dX1_doorLine_246 : decode cX1_doorLine 246 = .ok (.invokevirtual 201, 3) := dk_182 0 201 (dk_at dksX1_doorLine_8 14 rfl rfl)
theorem dX1_doorLine_249 : decode cX1_doorLine 249 = .ok (.return_, 1) := dk_177 (dk_at dksX1_doorLine_8 17 rfl rfl)
theorem dX1_doorLine_250 : decode cX1_doorLine 250 = .ok (.aload_n 0, 1) := dk_42 (dk_at dksX1_doorLine_8 18 rfl rfl)
theorem dX1_doorLine_251 : decode cX1_doorLine 251 = .ok (.aload_n 1, 1) := dk_43 (dk_at dksX1_doorLine_8 19 rfl rfl)
theorem dX1_doorLine_252 : decode cX1_doorLine 252 = .ok (.invokevirtual 204, 3) := dk_182 0 204 (dk_at dksX1_doorLine_8 20 rfl rfl)
theorem dX1_doorLine_255 : decode cX1_doorLine 255 = .ok (.return_, 1) := dk_177 (dk_at dksX1_doorLine_8 23 rfl rfl)
theorem dX1_doorLine_256 : decode cX1_doorLine 256 = .ok (.aload_n 0, 1) := dk_42 (dk_at dksX1_doorLine_9 0 rfl rfl)
theorem dX1_doorLine_257 : decode cX1_doorLine 257 = .ok (.aload_n 1, 1) := dk_43 (dk_at dksX1_doorLine_9 1 rfl rfl)
theorem dX1_doorLine_258 : decode cX1_doorLine 258 = .ok (.invokevirtual 207, 3) := dk_182 0 207 (dk_at dksX1_doorLine_9 2 rfl rfl)
theorem dX1_doorLine_261 : decode cX1_doorLine 261 = .ok (.return_, 1) := dk_177 (dk_at dksX1_doorLine_9 5 rfl rfl)
theorem dX1_doorLine_262 : decode cX1_doorLine 262 = .ok (.aload_n 1, 1) := dk_43 (dk_at dksX1_doorLine_9 6 rfl rfl)
theorem dX1_doorLine_263 : decode cX1_doorLine 263 = .ok (.aload_n 2, 1) := dk_44 (dk_at dksX1_doorLine_9 7 rfl rfl)
theorem dX1_doorLine_264 : decode cX1_doorLine 264 = .ok (.iconst 0, 1) := dk_3 (dk_at dksX1_doorLine_9 8 rfl rfl)
theorem dX1_doorLine_265 : decode cX1_doorLine 265 = .ok (.bipush 100, 2) := dk_16 100 (dk_at dksX1_doorLine_9 9 rfl rfl)
theorem dX1_doorLine_267 : decode cX1_doorLine 267 = .ok (.invokevirtual 105, 3) := dk_182 0 105 (dk_at dksX1_doorLine_9 11 rfl rfl)
theorem dX1_doorLine_270 : decode cX1_doorLine 270 = .ok (.putfield 210, 3) := dk_181 0 210 (dk_at dksX1_doorLine_9 14 rfl rfl)
theorem dX1_doorLine_273 : decode cX1_doorLine 273 = .ok (.return_, 1) := dk_177 (dk_at dksX1_doorLine_9 17 rfl rfl)
theorem dX1_doorLine_274 : decode cX1_doorLine 274 = .ok (.aload_n 1, 1) := dk_43 (dk_at dksX1_doorLine_9 18 rfl rfl)
theorem dX1_doorLine_275 : decode cX1_doorLine 275 = .ok (.aload_n 2, 1) := dk_44 (dk_at dksX1_doorLine_9 19 rfl rfl)
theorem dX1_doorLine_276 : decode cX1_doorLine 276 = .ok (.iconst 0, 1) := dk_3 (dk_at dksX1_doorLine_9 20 rfl rfl)
theorem dX1_doorLine_277 : decode cX1_doorLine 277 = .ok (.bipush 100, 2) := dk_16 100 (dk_at dksX1_doorLine_9 21 rfl rfl)
theorem dX1_doorLine_279 : decode cX1_doorLine 279 = .ok (.invokevirtual 105, 3) := dk_182 0 105 (dk_at dksX1_doorLine_10 0 rfl rfl)
theorem dX1_doorLine_282 : decode cX1_doorLine 282 = .ok (.putfield 212, 3) := dk_181 0 212 (dk_at dksX1_doorLine_10 3 rfl rfl)
theorem dX1_doorLine_285 : decode cX1_doorLine 285 = .ok (.return_, 1) := dk_177 (dk_at dksX1_doorLine_10 6 rfl rfl)
theorem dX1_doorLine_286 : decode cX1_doorLine 286 = .ok (.aload_n 2, 1) := dk_44 (dk_at dksX1_doorLine_10 7 rfl rfl)
theorem dX1_doorLine_287 : decode cX1_doorLine 287 = .ok (.invokevirtual 98, 3) := dk_182 0 98 (dk_at dksX1_doorLine_10 8 rfl rfl)
theorem dX1_doorLine_290 : decode cX1_doorLine 290 = .ok (.athrow, 1) := dk_191 (dk_at dksX1_doorLine_10 11 rfl rfl)
abbrev cX1_aPerson : ByteArray := prog_1_method_8_code
def yX1_aPerson : MethodName := ⟨RX1, "aPerson", "(LHungFaces$World;)V"⟩
def dkwX1_aPerson_6 : List UInt8 := [177]
abbrev dktX1_aPerson_6 : List UInt8 := dkwX1_aPerson_6 ++ []
def dkwX1_aPerson_5 : List UInt8 := [181, 0, 102, 3, 62, 29, 43, 180, 0, 102, 162, 0, 14, 43, 29, 182, 0, 138, 132, 3, 1, 167, 255, 240]
abbrev dktX1_aPerson_5 : List UInt8 := dkwX1_aPerson_5 ++ dktX1_aPerson_6
def dkwX1_aPerson_4 : List UInt8 := [180, 0, 135, 16, 10, 29, 104, 28, 96, 3, 79, 132, 3, 1, 167, 255, 223, 43, 89, 180, 0, 102, 4, 96]
abbrev dktX1_aPerson_4 : List UInt8 := dkwX1_aPerson_4 ++ dktX1_aPerson_5
def dkwX1_aPerson_3 : List UInt8 := [28, 3, 79, 3, 62, 29, 16, 10, 162, 0, 33, 43, 180, 0, 135, 16, 10, 28, 104, 29, 96, 3, 79, 43]
abbrev dktX1_aPerson_3 : List UInt8 := dkwX1_aPerson_3 ++ dktX1_aPerson_4
def dkwX1_aPerson_2 : List UInt8 := [180, 0, 123, 28, 2, 79, 43, 180, 0, 126, 28, 2, 79, 43, 180, 0, 129, 28, 3, 79, 43, 180, 0, 132]
abbrev dktX1_aPerson_2 : List UInt8 := dkwX1_aPerson_2 ++ dktX1_aPerson_3
def dkwX1_aPerson_1 : List UInt8 := [42, 182, 0, 113, 79, 43, 180, 0, 117, 28, 42, 182, 0, 113, 79, 43, 180, 0, 120, 28, 28, 79, 43]
abbrev dktX1_aPerson_1 : List UInt8 := dkwX1_aPerson_1 ++ dktX1_aPerson_2
def dkwX1_aPerson_0 : List UInt8 := [43, 180, 0, 102, 61, 28, 16, 10, 160, 0, 11, 42, 180, 0, 25, 182, 0, 98, 191, 43, 180, 0, 109, 28]
abbrev dktX1_aPerson_0 : List UInt8 := dkwX1_aPerson_0 ++ dktX1_aPerson_1
theorem dksX1_aPerson_0 : cX1_aPerson.data.toList.drop 0 = dktX1_aPerson_0 := by decide +kernel
theorem dksX1_aPerson_1 : cX1_aPerson.data.toList.drop 24 = dktX1_aPerson_1 := dk_seg dksX1_aPerson_0 24 rfl rfl
theorem dksX1_aPerson_2 : cX1_aPerson.data.toList.drop 47 = dktX1_aPerson_2 := dk_seg dksX1_aPerson_1 23 rfl rfl
theorem dksX1_aPerson_3 : cX1_aPerson.data.toList.drop 71 = dktX1_aPerson_3 := dk_seg dksX1_aPerson_2 24 rfl rfl
theorem dksX1_aPerson_4 : cX1_aPerson.data.toList.drop 95 = dktX1_aPerson_4 := dk_seg dksX1_aPerson_3 24 rfl rfl
theorem dksX1_aPerson_5 : cX1_aPerson.data.toList.drop 119 = dktX1_aPerson_5 := dk_seg dksX1_aPerson_4 24 rfl rfl
theorem dksX1_aPerson_6 : cX1_aPerson.data.toList.drop 143 = dktX1_aPerson_6 := dk_seg dksX1_aPerson_5 24 rfl rfl
theorem dX1_aPerson_0 : decode cX1_aPerson 0 = .ok (.aload_n 1, 1) := dk_43 (dk_at dksX1_aPerson_0 0 rfl rfl)
theorem dX1_aPerson_1 : decode cX1_aPerson 1 = .ok (.getfield 102, 3) := dk_180 0 102 (dk_at dksX1_aPerson_0 1 rfl rfl)
theorem dX1_aPerson_4 : decode cX1_aPerson 4 = .ok (.istore_n 2, 1) := dk_61 (dk_at dksX1_aPerson_0 4 rfl rfl)
theorem dX1_aPerson_5 : decode cX1_aPerson 5 = .ok (.iload_n 2, 1) := dk_28 (dk_at dksX1_aPerson_0 5 rfl rfl)
theorem dX1_aPerson_6 : decode cX1_aPerson 6 = .ok (.bipush 10, 2) := dk_16 10 (dk_at dksX1_aPerson_0 6 rfl rfl)
theorem dX1_aPerson_8 : decode cX1_aPerson 8 = .ok (.if_icmp .ne 11, 3) := dk_160 0 11 (dk_at dksX1_aPerson_0 8 rfl rfl)
theorem dX1_aPerson_11 : decode cX1_aPerson 11 = .ok (.aload_n 0, 1) := dk_42 (dk_at dksX1_aPerson_0 11 rfl rfl)
theorem dX1_aPerson_12 : decode cX1_aPerson 12 = .ok (.getfield 25, 3) := dk_180 0 25 (dk_at dksX1_aPerson_0 12 rfl rfl)
theorem dX1_aPerson_15 : decode cX1_aPerson 15 = .ok (.invokevirtual 98, 3) := dk_182 0 98 (dk_at dksX1_aPerson_0 15 rfl rfl)
theorem dX1_aPerson_18 : decode cX1_aPerson 18 = .ok (.athrow, 1) := dk_191 (dk_at dksX1_aPerson_0 18 rfl rfl)
theorem dX1_aPerson_19 : decode cX1_aPerson 19 = .ok (.aload_n 1, 1) := dk_43 (dk_at dksX1_aPerson_0 19 rfl rfl)
theorem dX1_aPerson_20 : decode cX1_aPerson 20 = .ok (.getfield 109, 3) := dk_180 0 109 (dk_at dksX1_aPerson_0 20 rfl rfl)
theorem dX1_aPerson_23 : decode cX1_aPerson 23 = .ok (.iload_n 2, 1) := dk_28 (dk_at dksX1_aPerson_0 23 rfl rfl)
theorem dX1_aPerson_24 : decode cX1_aPerson 24 = .ok (.aload_n 0, 1) := dk_42 (dk_at dksX1_aPerson_1 0 rfl rfl)
theorem dX1_aPerson_25 : decode cX1_aPerson 25 = .ok (.invokevirtual 113, 3) := dk_182 0 113 (dk_at dksX1_aPerson_1 1 rfl rfl)
theorem dX1_aPerson_28 : decode cX1_aPerson 28 = .ok (.iastore, 1) := dk_79 (dk_at dksX1_aPerson_1 4 rfl rfl)
theorem dX1_aPerson_29 : decode cX1_aPerson 29 = .ok (.aload_n 1, 1) := dk_43 (dk_at dksX1_aPerson_1 5 rfl rfl)
theorem dX1_aPerson_30 : decode cX1_aPerson 30 = .ok (.getfield 117, 3) := dk_180 0 117 (dk_at dksX1_aPerson_1 6 rfl rfl)
theorem dX1_aPerson_33 : decode cX1_aPerson 33 = .ok (.iload_n 2, 1) := dk_28 (dk_at dksX1_aPerson_1 9 rfl rfl)
theorem dX1_aPerson_34 : decode cX1_aPerson 34 = .ok (.aload_n 0, 1) := dk_42 (dk_at dksX1_aPerson_1 10 rfl rfl)
theorem dX1_aPerson_35 : decode cX1_aPerson 35 = .ok (.invokevirtual 113, 3) := dk_182 0 113 (dk_at dksX1_aPerson_1 11 rfl rfl)
theorem dX1_aPerson_38 : decode cX1_aPerson 38 = .ok (.iastore, 1) := dk_79 (dk_at dksX1_aPerson_1 14 rfl rfl)
theorem dX1_aPerson_39 : decode cX1_aPerson 39 = .ok (.aload_n 1, 1) := dk_43 (dk_at dksX1_aPerson_1 15 rfl rfl)
theorem dX1_aPerson_40 : decode cX1_aPerson 40 = .ok (.getfield 120, 3) := dk_180 0 120 (dk_at dksX1_aPerson_1 16 rfl rfl)
theorem dX1_aPerson_43 : decode cX1_aPerson 43 = .ok (.iload_n 2, 1) := dk_28 (dk_at dksX1_aPerson_1 19 rfl rfl)
theorem dX1_aPerson_44 : decode cX1_aPerson 44 = .ok (.iload_n 2, 1) := dk_28 (dk_at dksX1_aPerson_1 20 rfl rfl)
theorem dX1_aPerson_45 : decode cX1_aPerson 45 = .ok (.iastore, 1) := dk_79 (dk_at dksX1_aPerson_1 21 rfl rfl)
theorem dX1_aPerson_46 : decode cX1_aPerson 46 = .ok (.aload_n 1, 1) := dk_43 (dk_at dksX1_aPerson_1 22 rfl rfl)
theorem dX1_aPerson_47 : decode cX1_aPerson 47 = .ok (.getfield 123, 3) := dk_180 0 123 (dk_at dksX1_aPerson_2 0 rfl rfl)
theorem dX1_aPerson_50 : decode cX1_aPerson 50 = .ok (.iload_n 2, 1) := dk_28 (dk_at dksX1_aPerson_2 3 rfl rfl)
theorem dX1_aPerson_51 : decode cX1_aPerson 51 = .ok (.iconst (-1), 1) := dk_2 (dk_at dksX1_aPerson_2 4 rfl rfl)
theorem dX1_aPerson_52 : decode cX1_aPerson 52 = .ok (.iastore, 1) := dk_79 (dk_at dksX1_aPerson_2 5 rfl rfl)
theorem dX1_aPerson_53 : decode cX1_aPerson 53 = .ok (.aload_n 1, 1) := dk_43 (dk_at dksX1_aPerson_2 6 rfl rfl)
theorem dX1_aPerson_54 : decode cX1_aPerson 54 = .ok (.getfield 126, 3) := dk_180 0 126 (dk_at dksX1_aPerson_2 7 rfl rfl)
theorem dX1_aPerson_57 : decode cX1_aPerson 57 = .ok (.iload_n 2, 1) := dk_28 (dk_at dksX1_aPerson_2 10 rfl rfl)
theorem dX1_aPerson_58 : decode cX1_aPerson 58 = .ok (.iconst (-1), 1) := dk_2 (dk_at dksX1_aPerson_2 11 rfl rfl)
theorem dX1_aPerson_59 : decode cX1_aPerson 59 = .ok (.iastore, 1) := dk_79 (dk_at dksX1_aPerson_2 12 rfl rfl)
theorem dX1_aPerson_60 : decode cX1_aPerson 60 = .ok (.aload_n 1, 1) := dk_43 (dk_at dksX1_aPerson_2 13 rfl rfl)
theorem dX1_aPerson_61 : decode cX1_aPerson 61 = .ok (.getfield 129, 3) := dk_180 0 129 (dk_at dksX1_aPerson_2 14 rfl rfl)
theorem dX1_aPerson_64 : decode cX1_aPerson 64 = .ok (.iload_n 2, 1) := dk_28 (dk_at dksX1_aPerson_2 17 rfl rfl)
theorem dX1_aPerson_65 : decode cX1_aPerson 65 = .ok (.iconst 0, 1) := dk_3 (dk_at dksX1_aPerson_2 18 rfl rfl)
theorem dX1_aPerson_66 : decode cX1_aPerson 66 = .ok (.iastore, 1) := dk_79 (dk_at dksX1_aPerson_2 19 rfl rfl)
theorem dX1_aPerson_67 : decode cX1_aPerson 67 = .ok (.aload_n 1, 1) := dk_43 (dk_at dksX1_aPerson_2 20 rfl rfl)
theorem dX1_aPerson_68 : decode cX1_aPerson 68 = .ok (.getfield 132, 3) := dk_180 0 132 (dk_at dksX1_aPerson_2 21 rfl rfl)
theorem dX1_aPerson_71 : decode cX1_aPerson 71 = .ok (.iload_n 2, 1) := dk_28 (dk_at dksX1_aPerson_3 0 rfl rfl)
theorem dX1_aPerson_72 : decode cX1_aPerson 72 = .ok (.iconst 0, 1) := dk_3 (dk_at dksX1_aPerson_3 1 rfl rfl)
theorem dX1_aPerson_73 : decode cX1_aPerson 73 = .ok (.iastore, 1) := dk_79 (dk_at dksX1_aPerson_3 2 rfl rfl)
theorem dX1_aPerson_74 : decode cX1_aPerson 74 = .ok (.iconst 0, 1) := dk_3 (dk_at dksX1_aPerson_3 3 rfl rfl)
theorem dX1_aPerson_75 : decode cX1_aPerson 75 = .ok (.istore_n 3, 1) := dk_62 (dk_at dksX1_aPerson_3 4 rfl rfl)
theorem dX1_aPerson_76 : decode cX1_aPerson 76 = .ok (.iload_n 3, 1) := dk_29 (dk_at dksX1_aPerson_3 5 rfl rfl)
theorem dX1_aPerson_77 : decode cX1_aPerson 77 = .ok (.bipush 10, 2) := dk_16 10 (dk_at dksX1_aPerson_3 6 rfl rfl)
theorem dX1_aPerson_79 : decode cX1_aPerson 79 = .ok (.if_icmp .ge 33, 3) := dk_162 0 33 (dk_at dksX1_aPerson_3 8 rfl rfl)
theorem dX1_aPerson_82 : decode cX1_aPerson 82 = .ok (.aload_n 1, 1) := dk_43 (dk_at dksX1_aPerson_3 11 rfl rfl)
theorem dX1_aPerson_83 : decode cX1_aPerson 83 = .ok (.getfield 135, 3) := dk_180 0 135 (dk_at dksX1_aPerson_3 12 rfl rfl)
theorem dX1_aPerson_86 : decode cX1_aPerson 86 = .ok (.bipush 10, 2) := dk_16 10 (dk_at dksX1_aPerson_3 15 rfl rfl)
theorem dX1_aPerson_88 : decode cX1_aPerson 88 = .ok (.iload_n 2, 1) := dk_28 (dk_at dksX1_aPerson_3 17 rfl rfl)
theorem dX1_aPerson_89 : decode cX1_aPerson 89 = .ok (.imul, 1) := dk_104 (dk_at dksX1_aPerson_3 18 rfl rfl)
theorem dX1_aPerson_90 : decode cX1_aPerson 90 = .ok (.iload_n 3, 1) := dk_29 (dk_at dksX1_aPerson_3 19 rfl rfl)
theorem dX1_aPerson_91 : decode cX1_aPerson 91 = .ok (.iadd, 1) := dk_96 (dk_at dksX1_aPerson_3 20 rfl rfl)
theorem dX1_aPerson_92 : decode cX1_aPerson 92 = .ok (.iconst 0, 1) := dk_3 (dk_at dksX1_aPerson_3 21 rfl rfl)
theorem dX1_aPerson_93 : decode cX1_aPerson 93 = .ok (.iastore, 1) := dk_79 (dk_at dksX1_aPerson_3 22 rfl rfl)
theorem dX1_aPerson_94 : decode cX1_aPerson 94 = .ok (.aload_n 1, 1) := dk_43 (dk_at dksX1_aPerson_3 23 rfl rfl)
theorem dX1_aPerson_95 : decode cX1_aPerson 95 = .ok (.getfield 135, 3) := dk_180 0 135 (dk_at dksX1_aPerson_4 0 rfl rfl)
theorem dX1_aPerson_98 : decode cX1_aPerson 98 = .ok (.bipush 10, 2) := dk_16 10 (dk_at dksX1_aPerson_4 3 rfl rfl)
theorem dX1_aPerson_100 : decode cX1_aPerson 100 = .ok (.iload_n 3, 1) := dk_29 (dk_at dksX1_aPerson_4 5 rfl rfl)
theorem dX1_aPerson_101 : decode cX1_aPerson 101 = .ok (.imul, 1) := dk_104 (dk_at dksX1_aPerson_4 6 rfl rfl)
theorem dX1_aPerson_102 : decode cX1_aPerson 102 = .ok (.iload_n 2, 1) := dk_28 (dk_at dksX1_aPerson_4 7 rfl rfl)
theorem dX1_aPerson_103 : decode cX1_aPerson 103 = .ok (.iadd, 1) := dk_96 (dk_at dksX1_aPerson_4 8 rfl rfl)
theorem dX1_aPerson_104 : decode cX1_aPerson 104 = .ok (.iconst 0, 1) := dk_3 (dk_at dksX1_aPerson_4 9 rfl rfl)
theorem dX1_aPerson_105 : decode cX1_aPerson 105 = .ok (.iastore, 1) := dk_79 (dk_at dksX1_aPerson_4 10 rfl rfl)
theorem dX1_aPerson_106 : decode cX1_aPerson 106 = .ok (.iinc 3 1, 3) := dk_132 3 1 (dk_at dksX1_aPerson_4 11 rfl rfl)
theorem dX1_aPerson_109 : decode cX1_aPerson 109 = .ok (.goto (-33), 3) := dk_167 255 223 (dk_at dksX1_aPerson_4 14 rfl rfl)
theorem dX1_aPerson_112 : decode cX1_aPerson 112 = .ok (.aload_n 1, 1) := dk_43 (dk_at dksX1_aPerson_4 17 rfl rfl)
theorem dX1_aPerson_113 : decode cX1_aPerson 113 = .ok (.dup, 1) := dk_89 (dk_at dksX1_aPerson_4 18 rfl rfl)
theorem dX1_aPerson_114 : decode cX1_aPerson 114 = .ok (.getfield 102, 3) := dk_180 0 102 (dk_at dksX1_aPerson_4 19 rfl rfl)
theorem dX1_aPerson_117 : decode cX1_aPerson 117 = .ok (.iconst 1, 1) := dk_4 (dk_at dksX1_aPerson_4 22 rfl rfl)
theorem dX1_aPerson_118 : decode cX1_aPerson 118 = .ok (.iadd, 1) := dk_96 (dk_at dksX1_aPerson_4 23 rfl rfl)
theorem dX1_aPerson_119 : decode cX1_aPerson 119 = .ok (.putfield 102, 3) := dk_181 0 102 (dk_at dksX1_aPerson_5 0 rfl rfl)
theorem dX1_aPerson_122 : decode cX1_aPerson 122 = .ok (.iconst 0, 1) := dk_3 (dk_at dksX1_aPerson_5 3 rfl rfl)
theorem dX1_aPerson_123 : decode cX1_aPerson 123 = .ok (.istore_n 3, 1) := dk_62 (dk_at dksX1_aPerson_5 4 rfl rfl)
theorem dX1_aPerson_124 : decode cX1_aPerson 124 = .ok (.iload_n 3, 1) := dk_29 (dk_at dksX1_aPerson_5 5 rfl rfl)
theorem dX1_aPerson_125 : decode cX1_aPerson 125 = .ok (.aload_n 1, 1) := dk_43 (dk_at dksX1_aPerson_5 6 rfl rfl)
theorem dX1_aPerson_126 : decode cX1_aPerson 126 = .ok (.getfield 102, 3) := dk_180 0 102 (dk_at dksX1_aPerson_5 7 rfl rfl)
theorem dX1_aPerson_129 : decode cX1_aPerson 129 = .ok (.if_icmp .ge 14, 3) := dk_162 0 14 (dk_at dksX1_aPerson_5 10 rfl rfl)
theorem dX1_aPerson_132 : decode cX1_aPerson 132 = .ok (.aload_n 1, 1) := dk_43 (dk_at dksX1_aPerson_5 13 rfl rfl)
theorem dX1_aPerson_133 : decode cX1_aPerson 133 = .ok (.iload_n 3, 1) := dk_29 (dk_at dksX1_aPerson_5 14 rfl rfl)
theorem dX1_aPerson_134 : decode cX1_aPerson 134 = .ok (.invokevirtual 138, 3) := dk_182 0 138 (dk_at dksX1_aPerson_5 15 rfl rfl)
theorem dX1_aPerson_137 : decode cX1_aPerson 137 = .ok (.iinc 3 1, 3) := dk_132 3 1 (dk_at dksX1_aPerson_5 18 rfl rfl)
theorem dX1_aPerson_140 : decode cX1_aPerson 140 = .ok (.goto (-16), 3) := dk_167 255 240 (dk_at dksX1_aPerson_5 21 rfl rfl)
theorem dX1_aPerson_143 : decode cX1_aPerson 143 = .ok (.return_, 1) := dk_177 (dk_at dksX1_aPerson_6 0 rfl rfl)
abbrev cX1_marksTold : ByteArray := prog_1_method_6_code
def yX1_marksTold : MethodName := ⟨RX1, "marksTold", "()I"⟩
def dkwX1_marksTold_5 : List UInt8 := [180, 0, 95, 100, 16, 8, 159, 0, 8, 43, 182, 0, 98, 191, 28, 172]
abbrev dktX1_marksTold_5 : List UInt8 := dkwX1_marksTold_5 ++ []
def dkwX1_marksTold_4 : List UInt8 := [128, 61, 43, 89, 180, 0, 84, 4, 96, 181, 0, 84, 167, 255, 163, 29, 153, 0, 17, 43, 180, 0, 84, 43]
abbrev dktX1_marksTold_4 : List UInt8 := dkwX1_marksTold_4 ++ dktX1_marksTold_5
def dkwX1_marksTold_3 : List UInt8 := [3, 62, 29, 153, 0, 23, 43, 43, 180, 0, 84, 182, 0, 87, 16, 49, 160, 0, 10, 28, 4, 21, 4, 120]
abbrev dktX1_marksTold_3 : List UInt8 := dkwX1_marksTold_3 ++ dktX1_marksTold_4
def dkwX1_marksTold_2 : List UInt8 := [21, 4, 16, 8, 162, 0, 20, 43, 43, 180, 0, 84, 182, 0, 87, 16, 49, 163, 0, 7, 4, 167, 0, 4]
abbrev dktX1_marksTold_2 : List UInt8 := dkwX1_marksTold_2 ++ dktX1_marksTold_3
def dkwX1_marksTold_1 : List UInt8 := [16, 57, 184, 0, 91, 153, 0, 81, 43, 180, 0, 84, 43, 180, 0, 95, 100, 54, 4, 29, 153, 0, 27]
abbrev dktX1_marksTold_1 : List UInt8 := dkwX1_marksTold_1 ++ dktX1_marksTold_2
def dkwX1_marksTold_0 : List UInt8 := [42, 180, 0, 25, 76, 43, 182, 0, 81, 3, 61, 4, 62, 43, 43, 180, 0, 84, 182, 0, 87, 16, 48]
abbrev dktX1_marksTold_0 : List UInt8 := dkwX1_marksTold_0 ++ dktX1_marksTold_1
theorem dksX1_marksTold_0 : cX1_marksTold.data.toList.drop 0 = dktX1_marksTold_0 := by decide +kernel
theorem dksX1_marksTold_1 : cX1_marksTold.data.toList.drop 23 = dktX1_marksTold_1 := dk_seg dksX1_marksTold_0 23 rfl rfl
theorem dksX1_marksTold_2 : cX1_marksTold.data.toList.drop 46 = dktX1_marksTold_2 := dk_seg dksX1_marksTold_1 23 rfl rfl
theorem dksX1_marksTold_3 : cX1_marksTold.data.toList.drop 70 = dktX1_marksTold_3 := dk_seg dksX1_marksTold_2 24 rfl rfl
theorem dksX1_marksTold_4 : cX1_marksTold.data.toList.drop 94 = dktX1_marksTold_4 := dk_seg dksX1_marksTold_3 24 rfl rfl
theorem dksX1_marksTold_5 : cX1_marksTold.data.toList.drop 118 = dktX1_marksTold_5 := dk_seg dksX1_marksTold_4 24 rfl rfl
theorem dX1_marksTold_0 : decode cX1_marksTold 0 = .ok (.aload_n 0, 1) := dk_42 (dk_at dksX1_marksTold_0 0 rfl rfl)
theorem dX1_marksTold_1 : decode cX1_marksTold 1 = .ok (.getfield 25, 3) := dk_180 0 25 (dk_at dksX1_marksTold_0 1 rfl rfl)
theorem dX1_marksTold_4 : decode cX1_marksTold 4 = .ok (.astore_n 1, 1) := dk_76 (dk_at dksX1_marksTold_0 4 rfl rfl)
theorem dX1_marksTold_5 : decode cX1_marksTold 5 = .ok (.aload_n 1, 1) := dk_43 (dk_at dksX1_marksTold_0 5 rfl rfl)
theorem dX1_marksTold_6 : decode cX1_marksTold 6 = .ok (.invokevirtual 81, 3) := dk_182 0 81 (dk_at dksX1_marksTold_0 6 rfl rfl)
theorem dX1_marksTold_9 : decode cX1_marksTold 9 = .ok (.iconst 0, 1) := dk_3 (dk_at dksX1_marksTold_0 9 rfl rfl)
theorem dX1_marksTold_10 : decode cX1_marksTold 10 = .ok (.istore_n 2, 1) := dk_61 (dk_at dksX1_marksTold_0 10 rfl rfl)
theorem dX1_marksTold_11 : decode cX1_marksTold 11 = .ok (.iconst 1, 1) := dk_4 (dk_at dksX1_marksTold_0 11 rfl rfl)
theorem dX1_marksTold_12 : decode cX1_marksTold 12 = .ok (.istore_n 3, 1) := dk_62 (dk_at dksX1_marksTold_0 12 rfl rfl)
theorem dX1_marksTold_13 : decode cX1_marksTold 13 = .ok (.aload_n 1, 1) := dk_43 (dk_at dksX1_marksTold_0 13 rfl rfl)
theorem dX1_marksTold_14 : decode cX1_marksTold 14 = .ok (.aload_n 1, 1) := dk_43 (dk_at dksX1_marksTold_0 14 rfl rfl)
theorem dX1_marksTold_15 : decode cX1_marksTold 15 = .ok (.getfield 84, 3) := dk_180 0 84 (dk_at dksX1_marksTold_0 15 rfl rfl)
theorem dX1_marksTold_18 : decode cX1_marksTold 18 = .ok (.invokevirtual 87, 3) := dk_182 0 87 (dk_at dksX1_marksTold_0 18 rfl rfl)
theorem dX1_marksTold_21 : decode cX1_marksTold 21 = .ok (.bipush 48, 2) := dk_16 48 (dk_at dksX1_marksTold_0 21 rfl rfl)
theorem dX1_marksTold_23 : decode cX1_marksTold 23 = .ok (.bipush 57, 2) := dk_16 57 (dk_at dksX1_marksTold_1 0 rfl rfl)
theorem dX1_marksTold_25 : decode cX1_marksTold 25 = .ok (.invokestatic 91, 3) := dk_184 0 91 (dk_at dksX1_marksTold_1 2 rfl rfl)
theorem dX1_marksTold_28 : decode cX1_marksTold 28 = .ok (.ifCond .eq 81, 3) := dk_153 0 81 (dk_at dksX1_marksTold_1 5 rfl rfl)
theorem dX1_marksTold_31 : decode cX1_marksTold 31 = .ok (.aload_n 1, 1) := dk_43 (dk_at dksX1_marksTold_1 8 rfl rfl)
theorem dX1_marksTold_32 : decode cX1_marksTold 32 = .ok (.getfield 84, 3) := dk_180 0 84 (dk_at dksX1_marksTold_1 9 rfl rfl)
theorem dX1_marksTold_35 : decode cX1_marksTold 35 = .ok (.aload_n 1, 1) := dk_43 (dk_at dksX1_marksTold_1 12 rfl rfl)
theorem dX1_marksTold_36 : decode cX1_marksTold 36 = .ok (.getfield 95, 3) := dk_180 0 95 (dk_at dksX1_marksTold_1 13 rfl rfl)
theorem dX1_marksTold_39 : decode cX1_marksTold 39 = .ok (.isub, 1) := dk_100 (dk_at dksX1_marksTold_1 16 rfl rfl)
theorem dX1_marksTold_40 : decode cX1_marksTold 40 = .ok (.istore 4, 2) := dk_54 4 (dk_at dksX1_marksTold_1 17 rfl rfl)
theorem dX1_marksTold_42 : decode cX1_marksTold 42 = .ok (.iload_n 3, 1) := dk_29 (dk_at dksX1_marksTold_1 19 rfl rfl)
theorem dX1_marksTold_43 : decode cX1_marksTold 43 = .ok (.ifCond .eq 27, 3) := dk_153 0 27 (dk_at dksX1_marksTold_1 20 rfl rfl)
theorem dX1_marksTold_46 : decode cX1_marksTold 46 = .ok (.iload 4, 2) := dk_21 4 (dk_at dksX1_marksTold_2 0 rfl rfl)
theorem dX1_marksTold_48 : decode cX1_marksTold 48 = .ok (.bipush 8, 2) := dk_16 8 (dk_at dksX1_marksTold_2 2 rfl rfl)
theorem dX1_marksTold_50 : decode cX1_marksTold 50 = .ok (.if_icmp .ge 20, 3) := dk_162 0 20 (dk_at dksX1_marksTold_2 4 rfl rfl)
theorem dX1_marksTold_53 : decode cX1_marksTold 53 = .ok (.aload_n 1, 1) := dk_43 (dk_at dksX1_marksTold_2 7 rfl rfl)
theorem dX1_marksTold_54 : decode cX1_marksTold 54 = .ok (.aload_n 1, 1) := dk_43 (dk_at dksX1_marksTold_2 8 rfl rfl)
theorem dX1_marksTold_55 : decode cX1_marksTold 55 = .ok (.getfield 84, 3) := dk_180 0 84 (dk_at dksX1_marksTold_2 9 rfl rfl)
theorem dX1_marksTold_58 : decode cX1_marksTold 58 = .ok (.invokevirtual 87, 3) := dk_182 0 87 (dk_at dksX1_marksTold_2 12 rfl rfl)
theorem dX1_marksTold_61 : decode cX1_marksTold 61 = .ok (.bipush 49, 2) := dk_16 49 (dk_at dksX1_marksTold_2 15 rfl rfl)
theorem dX1_marksTold_63 : decode cX1_marksTold 63 = .ok (.if_icmp .gt 7, 3) := dk_163 0 7 (dk_at dksX1_marksTold_2 17 rfl rfl)
theorem dX1_marksTold_66 : decode cX1_marksTold 66 = .ok (.iconst 1, 1) := dk_4 (dk_at dksX1_marksTold_2 20 rfl rfl)
theorem dX1_marksTold_67 : decode cX1_marksTold 67 = .ok (.goto 4, 3) := dk_167 0 4 (dk_at dksX1_marksTold_2 21 rfl rfl)
theorem dX1_marksTold_70 : decode cX1_marksTold 70 = .ok (.iconst 0, 1) := dk_3 (dk_at dksX1_marksTold_3 0 rfl rfl)
theorem dX1_marksTold_71 : decode cX1_marksTold 71 = .ok (.istore_n 3, 1) := dk_62 (dk_at dksX1_marksTold_3 1 rfl rfl)
theorem dX1_marksTold_72 : decode cX1_marksTold 72 = .ok (.iload_n 3, 1) := dk_29 (dk_at dksX1_marksTold_3 2 rfl rfl)
theorem dX1_marksTold_73 : decode cX1_marksTold 73 = .ok (.ifCond .eq 23, 3) := dk_153 0 23 (dk_at dksX1_marksTold_3 3 rfl rfl)
theorem dX1_marksTold_76 : decode cX1_marksTold 76 = .ok (.aload_n 1, 1) := dk_43 (dk_at dksX1_marksTold_3 6 rfl rfl)
theorem dX1_marksTold_77 : decode cX1_marksTold 77 = .ok (.aload_n 1, 1) := dk_43 (dk_at dksX1_marksTold_3 7 rfl rfl)
theorem dX1_marksTold_78 : decode cX1_marksTold 78 = .ok (.getfield 84, 3) := dk_180 0 84 (dk_at dksX1_marksTold_3 8 rfl rfl)
theorem dX1_marksTold_81 : decode cX1_marksTold 81 = .ok (.invokevirtual 87, 3) := dk_182 0 87 (dk_at dksX1_marksTold_3 11 rfl rfl)
theorem dX1_marksTold_84 : decode cX1_marksTold 84 = .ok (.bipush 49, 2) := dk_16 49 (dk_at dksX1_marksTold_3 14 rfl rfl)
theorem dX1_marksTold_86 : decode cX1_marksTold 86 = .ok (.if_icmp .ne 10, 3) := dk_160 0 10 (dk_at dksX1_marksTold_3 16 rfl rfl)
theorem dX1_marksTold_89 : decode cX1_marksTold 89 = .ok (.iload_n 2, 1) := dk_28 (dk_at dksX1_marksTold_3 19 rfl rfl)
theorem dX1_marksTold_90 : decode cX1_marksTold 90 = .ok (.iconst 1, 1) := dk_4 (dk_at dksX1_marksTold_3 20 rfl rfl)
theorem dX1_marksTold_91 : decode cX1_marksTold 91 = .ok (.iload 4, 2) := dk_21 4 (dk_at dksX1_marksTold_3 21 rfl rfl)
theorem dX1_marksTold_93 : decode cX1_marksTold 93 = .ok (.ishl, 1) := dk_120 (dk_at dksX1_marksTold_3 23 rfl rfl)
theorem dX1_marksTold_94 : decode cX1_marksTold 94 = .ok (.ior, 1) := dk_128 (dk_at dksX1_marksTold_4 0 rfl rfl)
theorem dX1_marksTold_95 : decode cX1_marksTold 95 = .ok (.istore_n 2, 1) := dk_61 (dk_at dksX1_marksTold_4 1 rfl rfl)
theorem dX1_marksTold_96 : decode cX1_marksTold 96 = .ok (.aload_n 1, 1) := dk_43 (dk_at dksX1_marksTold_4 2 rfl rfl)
theorem dX1_marksTold_97 : decode cX1_marksTold 97 = .ok (.dup, 1) := dk_89 (dk_at dksX1_marksTold_4 3 rfl rfl)
theorem dX1_marksTold_98 : decode cX1_marksTold 98 = .ok (.getfield 84, 3) := dk_180 0 84 (dk_at dksX1_marksTold_4 4 rfl rfl)
theorem dX1_marksTold_101 : decode cX1_marksTold 101 = .ok (.iconst 1, 1) := dk_4 (dk_at dksX1_marksTold_4 7 rfl rfl)
theorem dX1_marksTold_102 : decode cX1_marksTold 102 = .ok (.iadd, 1) := dk_96 (dk_at dksX1_marksTold_4 8 rfl rfl)
theorem dX1_marksTold_103 : decode cX1_marksTold 103 = .ok (.putfield 84, 3) := dk_181 0 84 (dk_at dksX1_marksTold_4 9 rfl rfl)
theorem dX1_marksTold_106 : decode cX1_marksTold 106 = .ok (.goto (-93), 3) := dk_167 255 163 (dk_at dksX1_marksTold_4 12 rfl rfl)
theorem dX1_marksTold_109 : decode cX1_marksTold 109 = .ok (.iload_n 3, 1) := dk_29 (dk_at dksX1_marksTold_4 15 rfl rfl)
theorem dX1_marksTold_110 : decode cX1_marksTold 110 = .ok (.ifCond .eq 17, 3) := dk_153 0 17 (dk_at dksX1_marksTold_4 16 rfl rfl)
theorem dX1_marksTold_113 : decode cX1_marksTold 113 = .ok (.aload_n 1, 1) := dk_43 (dk_at dksX1_marksTold_4 19 rfl rfl)
theorem dX1_marksTold_114 : decode cX1_marksTold 114 = .ok (.getfield 84, 3) := dk_180 0 84 (dk_at dksX1_marksTold_4 20 rfl rfl)
theorem dX1_marksTold_117 : decode cX1_marksTold 117 = .ok (.aload_n 1, 1) := dk_43 (dk_at dksX1_marksTold_4 23 rfl rfl)
theorem dX1_marksTold_118 : decode cX1_marksTold 118 = .ok (.getfield 95, 3) := dk_180 0 95 (dk_at dksX1_marksTold_5 0 rfl rfl)
theorem dX1_marksTold_121 : decode cX1_marksTold 121 = .ok (.isub, 1) := dk_100 (dk_at dksX1_marksTold_5 3 rfl rfl)
theorem dX1_marksTold_122 : decode cX1_marksTold 122 = .ok (.bipush 8, 2) := dk_16 8 (dk_at dksX1_marksTold_5 4 rfl rfl)
theorem dX1_marksTold_124 : decode cX1_marksTold 124 = .ok (.if_icmp .eq 8, 3) := dk_159 0 8 (dk_at dksX1_marksTold_5 6 rfl rfl)
theorem dX1_marksTold_127 : decode cX1_marksTold 127 = .ok (.aload_n 1, 1) := dk_43 (dk_at dksX1_marksTold_5 9 rfl rfl)
theorem dX1_marksTold_128 : decode cX1_marksTold 128 = .ok (.invokevirtual 98, 3) := dk_182 0 98 (dk_at dksX1_marksTold_5 10 rfl rfl)
theorem dX1_marksTold_131 : decode cX1_marksTold 131 = .ok (.athrow, 1) := dk_191 (dk_at dksX1_marksTold_5 13 rfl rfl)
theorem dX1_marksTold_132 : decode cX1_marksTold 132 = .ok (.iload_n 2, 1) := dk_28 (dk_at dksX1_marksTold_5 14 rfl rfl)
theorem dX1_marksTold_133 : decode cX1_marksTold 133 = .ok (.ireturn, 1) := dk_172 (dk_at dksX1_marksTold_5 15 rfl rfl)
abbrev cX1_aWish : ByteArray := prog_1_method_9_code
def yX1_aWish : MethodName := ⟨RX1, "aWish", "(LHungFaces$World;)V"⟩
def dkwX1_aWish_3 : List UInt8 := [182, 0, 153, 154, 255, 202, 43, 29, 182, 0, 138, 177]
abbrev dktX1_aWish_3 : List UInt8 := dkwX1_aWish_3 ++ []
def dkwX1_aWish_2 : List UInt8 := [104, 43, 180, 0, 132, 29, 46, 96, 21, 4, 79, 43, 180, 0, 132, 29, 92, 46, 4, 96, 79, 44]
abbrev dktX1_aWish_2 : List UInt8 := dkwX1_aWish_2 ++ dktX1_aWish_3
def dkwX1_aWish_1 : List UInt8 := [54, 4, 43, 29, 21, 4, 182, 0, 146, 153, 0, 8, 44, 182, 0, 98, 191, 43, 180, 0, 150, 16, 10, 29]
abbrev dktX1_aWish_1 : List UInt8 := dkwX1_aWish_1 ++ dktX1_aWish_2
def dkwX1_aWish_0 : List UInt8 := [42, 180, 0, 25, 77, 42, 43, 182, 0, 142, 62, 43, 180, 0, 132, 29, 3, 79, 42, 43, 182, 0, 142]
abbrev dktX1_aWish_0 : List UInt8 := dkwX1_aWish_0 ++ dktX1_aWish_1
theorem dksX1_aWish_0 : cX1_aWish.data.toList.drop 0 = dktX1_aWish_0 := by decide +kernel
theorem dksX1_aWish_1 : cX1_aWish.data.toList.drop 23 = dktX1_aWish_1 := dk_seg dksX1_aWish_0 23 rfl rfl
theorem dksX1_aWish_2 : cX1_aWish.data.toList.drop 47 = dktX1_aWish_2 := dk_seg dksX1_aWish_1 24 rfl rfl
theorem dksX1_aWish_3 : cX1_aWish.data.toList.drop 69 = dktX1_aWish_3 := dk_seg dksX1_aWish_2 22 rfl rfl
theorem dX1_aWish_0 : decode cX1_aWish 0 = .ok (.aload_n 0, 1) := dk_42 (dk_at dksX1_aWish_0 0 rfl rfl)
theorem dX1_aWish_1 : decode cX1_aWish 1 = .ok (.getfield 25, 3) := dk_180 0 25 (dk_at dksX1_aWish_0 1 rfl rfl)
theorem dX1_aWish_4 : decode cX1_aWish 4 = .ok (.astore_n 2, 1) := dk_77 (dk_at dksX1_aWish_0 4 rfl rfl)
theorem dX1_aWish_5 : decode cX1_aWish 5 = .ok (.aload_n 0, 1) := dk_42 (dk_at dksX1_aWish_0 5 rfl rfl)
theorem dX1_aWish_6 : decode cX1_aWish 6 = .ok (.aload_n 1, 1) := dk_43 (dk_at dksX1_aWish_0 6 rfl rfl)
theorem dX1_aWish_7 : decode cX1_aWish 7 = .ok (.invokevirtual 142, 3) := dk_182 0 142 (dk_at dksX1_aWish_0 7 rfl rfl)
theorem dX1_aWish_10 : decode cX1_aWish 10 = .ok (.istore_n 3, 1) := dk_62 (dk_at dksX1_aWish_0 10 rfl rfl)
theorem dX1_aWish_11 : decode cX1_aWish 11 = .ok (.aload_n 1, 1) := dk_43 (dk_at dksX1_aWish_0 11 rfl rfl)
theorem dX1_aWish_12 : decode cX1_aWish 12 = .ok (.getfield 132, 3) := dk_180 0 132 (dk_at dksX1_aWish_0 12 rfl rfl)
theorem dX1_aWish_15 : decode cX1_aWish 15 = .ok (.iload_n 3, 1) := dk_29 (dk_at dksX1_aWish_0 15 rfl rfl)
theorem dX1_aWish_16 : decode cX1_aWish 16 = .ok (.iconst 0, 1) := dk_3 (dk_at dksX1_aWish_0 16 rfl rfl)
theorem dX1_aWish_17 : decode cX1_aWish 17 = .ok (.iastore, 1) := dk_79 (dk_at dksX1_aWish_0 17 rfl rfl)
theorem dX1_aWish_18 : decode cX1_aWish 18 = .ok (.aload_n 0, 1) := dk_42 (dk_at dksX1_aWish_0 18 rfl rfl)
theorem dX1_aWish_19 : decode cX1_aWish 19 = .ok (.aload_n 1, 1) := dk_43 (dk_at dksX1_aWish_0 19 rfl rfl)
theorem dX1_aWish_20 : decode cX1_aWish 20 = .ok (.invokevirtual 142, 3) := dk_182 0 142 (dk_at dksX1_aWish_0 20 rfl rfl)
theorem dX1_aWish_23 : decode cX1_aWish 23 = .ok (.istore 4, 2) := dk_54 4 (dk_at dksX1_aWish_1 0 rfl rfl)
theorem dX1_aWish_25 : decode cX1_aWish 25 = .ok (.aload_n 1, 1) := dk_43 (dk_at dksX1_aWish_1 2 rfl rfl)
theorem dX1_aWish_26 : decode cX1_aWish 26 = .ok (.iload_n 3, 1) := dk_29 (dk_at dksX1_aWish_1 3 rfl rfl)
theorem dX1_aWish_27 : decode cX1_aWish 27 = .ok (.iload 4, 2) := dk_21 4 (dk_at dksX1_aWish_1 4 rfl rfl)
theorem dX1_aWish_29 : decode cX1_aWish 29 = .ok (.invokevirtual 146, 3) := dk_182 0 146 (dk_at dksX1_aWish_1 6 rfl rfl)
theorem dX1_aWish_32 : decode cX1_aWish 32 = .ok (.ifCond .eq 8, 3) := dk_153 0 8 (dk_at dksX1_aWish_1 9 rfl rfl)
theorem dX1_aWish_35 : decode cX1_aWish 35 = .ok (.aload_n 2, 1) := dk_44 (dk_at dksX1_aWish_1 12 rfl rfl)
theorem dX1_aWish_36 : decode cX1_aWish 36 = .ok (.invokevirtual 98, 3) := dk_182 0 98 (dk_at dksX1_aWish_1 13 rfl rfl)
theorem dX1_aWish_39 : decode cX1_aWish 39 = .ok (.athrow, 1) := dk_191 (dk_at dksX1_aWish_1 16 rfl rfl)
theorem dX1_aWish_40 : decode cX1_aWish 40 = .ok (.aload_n 1, 1) := dk_43 (dk_at dksX1_aWish_1 17 rfl rfl)
theorem dX1_aWish_41 : decode cX1_aWish 41 = .ok (.getfield 150, 3) := dk_180 0 150 (dk_at dksX1_aWish_1 18 rfl rfl)
theorem dX1_aWish_44 : decode cX1_aWish 44 = .ok (.bipush 10, 2) := dk_16 10 (dk_at dksX1_aWish_1 21 rfl rfl)
theorem dX1_aWish_46 : decode cX1_aWish 46 = .ok (.iload_n 3, 1) := dk_29 (dk_at dksX1_aWish_1 23 rfl rfl)
theorem dX1_aWish_47 : decode cX1_aWish 47 = .ok (.imul, 1) := dk_104 (dk_at dksX1_aWish_2 0 rfl rfl)
theorem dX1_aWish_48 : decode cX1_aWish 48 = .ok (.aload_n 1, 1) := dk_43 (dk_at dksX1_aWish_2 1 rfl rfl)
theorem dX1_aWish_49 : decode cX1_aWish 49 = .ok (.getfield 132, 3) := dk_180 0 132 (dk_at dksX1_aWish_2 2 rfl rfl)
theorem dX1_aWish_52 : decode cX1_aWish 52 = .ok (.iload_n 3, 1) := dk_29 (dk_at dksX1_aWish_2 5 rfl rfl)
theorem dX1_aWish_53 : decode cX1_aWish 53 = .ok (.iaload, 1) := dk_46 (dk_at dksX1_aWish_2 6 rfl rfl)
theorem dX1_aWish_54 : decode cX1_aWish 54 = .ok (.iadd, 1) := dk_96 (dk_at dksX1_aWish_2 7 rfl rfl)
theorem dX1_aWish_55 : decode cX1_aWish 55 = .ok (.iload 4, 2) := dk_21 4 (dk_at dksX1_aWish_2 8 rfl rfl)
theorem dX1_aWish_57 : decode cX1_aWish 57 = .ok (.iastore, 1) := dk_79 (dk_at dksX1_aWish_2 10 rfl rfl)
theorem dX1_aWish_58 : decode cX1_aWish 58 = .ok (.aload_n 1, 1) := dk_43 (dk_at dksX1_aWish_2 11 rfl rfl)
theorem dX1_aWish_59 : decode cX1_aWish 59 = .ok (.getfield 132, 3) := dk_180 0 132 (dk_at dksX1_aWish_2 12 rfl rfl)
theorem dX1_aWish_62 : decode cX1_aWish 62 = .ok (.iload_n 3, 1) := dk_29 (dk_at dksX1_aWish_2 15 rfl rfl)
theorem dX1_aWish_63 : decode cX1_aWish 63 = .ok (.dup2, 1) := dk_92 (dk_at dksX1_aWish_2 16 rfl rfl)
theorem dX1_aWish_64 : decode cX1_aWish 64 = .ok (.iaload, 1) := dk_46 (dk_at dksX1_aWish_2 17 rfl rfl)
theorem dX1_aWish_65 : decode cX1_aWish 65 = .ok (.iconst 1, 1) := dk_4 (dk_at dksX1_aWish_2 18 rfl rfl)
theorem dX1_aWish_66 : decode cX1_aWish 66 = .ok (.iadd, 1) := dk_96 (dk_at dksX1_aWish_2 19 rfl rfl)
theorem dX1_aWish_67 : decode cX1_aWish 67 = .ok (.iastore, 1) := dk_79 (dk_at dksX1_aWish_2 20 rfl rfl)
theorem dX1_aWish_68 : decode cX1_aWish 68 = .ok (.aload_n 2, 1) := dk_44 (dk_at dksX1_aWish_2 21 rfl rfl)
theorem dX1_aWish_69 : decode cX1_aWish 69 = .ok (.invokevirtual 153, 3) := dk_182 0 153 (dk_at dksX1_aWish_3 0 rfl rfl)
theorem dX1_aWish_72 : decode cX1_aWish 72 = .ok (.ifCond .ne (-54), 3) := dk_154 255 202 (dk_at dksX1_aWish_3 3 rfl rfl)
theorem dX1_aWish_75 : decode cX1_aWish 75 = .ok (.aload_n 1, 1) := dk_43 (dk_at dksX1_aWish_3 6 rfl rfl)
theorem dX1_aWish_76 : decode cX1_aWish 76 = .ok (.iload_n 3, 1) := dk_29 (dk_at dksX1_aWish_3 7 rfl rfl)
theorem dX1_aWish_77 : decode cX1_aWish 77 = .ok (.invokevirtual 138, 3) := dk_182 0 138 (dk_at dksX1_aWish_3 8 rfl rfl)
theorem dX1_aWish_80 : decode cX1_aWish 80 = .ok (.return_, 1) := dk_177 (dk_at dksX1_aWish_3 11 rfl rfl)
abbrev cX1_personTold : ByteArray := prog_1_method_7_code
def yX1_personTold : MethodName := ⟨RX1, "personTold", "(LHungFaces$World;)I"⟩
def dkwX1_personTold_0 : List UInt8 := [42, 180, 0, 25, 3, 43, 180, 0, 102, 4, 100, 182, 0, 105, 172]
abbrev dktX1_personTold_0 : List UInt8 := dkwX1_personTold_0 ++ []
theorem dksX1_personTold_0 : cX1_personTold.data.toList.drop 0 = dktX1_personTold_0 := by decide +kernel
theorem dX1_personTold_0 : decode cX1_personTold 0 = .ok (.aload_n 0, 1) := dk_42 (dk_at dksX1_personTold_0 0 rfl rfl)
theorem dX1_personTold_1 : decode cX1_personTold 1 = .ok (.getfield 25, 3) := dk_180 0 25 (dk_at dksX1_personTold_0 1 rfl rfl)
theorem dX1_personTold_4 : decode cX1_personTold 4 = .ok (.iconst 0, 1) := dk_3 (dk_at dksX1_personTold_0 4 rfl rfl)
theorem dX1_personTold_5 : decode cX1_personTold 5 = .ok (.aload_n 1, 1) := dk_43 (dk_at dksX1_personTold_0 5 rfl rfl)
theorem dX1_personTold_6 : decode cX1_personTold 6 = .ok (.getfield 102, 3) := dk_180 0 102 (dk_at dksX1_personTold_0 6 rfl rfl)
theorem dX1_personTold_9 : decode cX1_personTold 9 = .ok (.iconst 1, 1) := dk_4 (dk_at dksX1_personTold_0 9 rfl rfl)
theorem dX1_personTold_10 : decode cX1_personTold 10 = .ok (.isub, 1) := dk_100 (dk_at dksX1_personTold_0 10 rfl rfl)
theorem dX1_personTold_11 : decode cX1_personTold 11 = .ok (.invokevirtual 105, 3) := dk_182 0 105 (dk_at dksX1_personTold_0 11 rfl rfl)
theorem dX1_personTold_14 : decode cX1_personTold 14 = .ok (.ireturn, 1) := dk_172 (dk_at dksX1_personTold_0 14 rfl rfl)
abbrev cX1_aWedding : ByteArray := prog_1_method_11_code
def yX1_aWedding : MethodName := ⟨RX1, "aWedding", "(LHungFaces$World;)V"⟩
def dkwX1_aWedding_1 : List UInt8 := [191, 43, 180, 0, 126, 28, 29, 79, 43, 180, 0, 126, 29, 28, 79, 177]
abbrev dktX1_aWedding_1 : List UInt8 := dkwX1_aWedding_1 ++ []
def dkwX1_aWedding_0 : List UInt8 := [42, 43, 182, 0, 157, 61, 42, 43, 182, 0, 157, 62, 28, 29, 160, 0, 11, 42, 180, 0, 25, 182, 0, 98]
abbrev dktX1_aWedding_0 : List UInt8 := dkwX1_aWedding_0 ++ dktX1_aWedding_1
theorem dksX1_aWedding_0 : cX1_aWedding.data.toList.drop 0 = dktX1_aWedding_0 := by decide +kernel
theorem dksX1_aWedding_1 : cX1_aWedding.data.toList.drop 24 = dktX1_aWedding_1 := dk_seg dksX1_aWedding_0 24 rfl rfl
theorem dX1_aWedding_0 : decode cX1_aWedding 0 = .ok (.aload_n 0, 1) := dk_42 (dk_at dksX1_aWedding_0 0 rfl rfl)
theorem dX1_aWedding_1 : decode cX1_aWedding 1 = .ok (.aload_n 1, 1) := dk_43 (dk_at dksX1_aWedding_0 1 rfl rfl)
theorem dX1_aWedding_2 : decode cX1_aWedding 2 = .ok (.invokevirtual 157, 3) := dk_182 0 157 (dk_at dksX1_aWedding_0 2 rfl rfl)
theorem dX1_aWedding_5 : decode cX1_aWedding 5 = .ok (.istore_n 2, 1) := dk_61 (dk_at dksX1_aWedding_0 5 rfl rfl)
theorem dX1_aWedding_6 : decode cX1_aWedding 6 = .ok (.aload_n 0, 1) := dk_42 (dk_at dksX1_aWedding_0 6 rfl rfl)
theorem dX1_aWedding_7 : decode cX1_aWedding 7 = .ok (.aload_n 1, 1) := dk_43 (dk_at dksX1_aWedding_0 7 rfl rfl)
theorem dX1_aWedding_8 : decode cX1_aWedding 8 = .ok (.invokevirtual 157, 3) := dk_182 0 157 (dk_at dksX1_aWedding_0 8 rfl rfl)
theorem dX1_aWedding_11 : decode cX1_aWedding 11 = .ok (.istore_n 3, 1) := dk_62 (dk_at dksX1_aWedding_0 11 rfl rfl)
theorem dX1_aWedding_12 : decode cX1_aWedding 12 = .ok (.iload_n 2, 1) := dk_28 (dk_at dksX1_aWedding_0 12 rfl rfl)
theorem dX1_aWedding_13 : decode cX1_aWedding 13 = .ok (.iload_n 3, 1) := dk_29 (dk_at dksX1_aWedding_0 13 rfl rfl)
theorem dX1_aWedding_14 : decode cX1_aWedding 14 = .ok (.if_icmp .ne 11, 3) := dk_160 0 11 (dk_at dksX1_aWedding_0 14 rfl rfl)
theorem dX1_aWedding_17 : decode cX1_aWedding 17 = .ok (.aload_n 0, 1) := dk_42 (dk_at dksX1_aWedding_0 17 rfl rfl)
theorem dX1_aWedding_18 : decode cX1_aWedding 18 = .ok (.getfield 25, 3) := dk_180 0 25 (dk_at dksX1_aWedding_0 18 rfl rfl)
theorem dX1_aWedding_21 : decode cX1_aWedding 21 = .ok (.invokevirtual 98, 3) := dk_182 0 98 (dk_at dksX1_aWedding_0 21 rfl rfl)
theorem dX1_aWedding_24 : decode cX1_aWedding 24 = .ok (.athrow, 1) := dk_191 (dk_at dksX1_aWedding_1 0 rfl rfl)
theorem dX1_aWedding_25 : decode cX1_aWedding 25 = .ok (.aload_n 1, 1) := dk_43 (dk_at dksX1_aWedding_1 1 rfl rfl)
theorem dX1_aWedding_26 : decode cX1_aWedding 26 = .ok (.getfield 126, 3) := dk_180 0 126 (dk_at dksX1_aWedding_1 2 rfl rfl)
theorem dX1_aWedding_29 : decode cX1_aWedding 29 = .ok (.iload_n 2, 1) := dk_28 (dk_at dksX1_aWedding_1 5 rfl rfl)
theorem dX1_aWedding_30 : decode cX1_aWedding 30 = .ok (.iload_n 3, 1) := dk_29 (dk_at dksX1_aWedding_1 6 rfl rfl)
theorem dX1_aWedding_31 : decode cX1_aWedding 31 = .ok (.iastore, 1) := dk_79 (dk_at dksX1_aWedding_1 7 rfl rfl)
theorem dX1_aWedding_32 : decode cX1_aWedding 32 = .ok (.aload_n 1, 1) := dk_43 (dk_at dksX1_aWedding_1 8 rfl rfl)
theorem dX1_aWedding_33 : decode cX1_aWedding 33 = .ok (.getfield 126, 3) := dk_180 0 126 (dk_at dksX1_aWedding_1 9 rfl rfl)
theorem dX1_aWedding_36 : decode cX1_aWedding 36 = .ok (.iload_n 3, 1) := dk_29 (dk_at dksX1_aWedding_1 12 rfl rfl)
theorem dX1_aWedding_37 : decode cX1_aWedding 37 = .ok (.iload_n 2, 1) := dk_28 (dk_at dksX1_aWedding_1 13 rfl rfl)
theorem dX1_aWedding_38 : decode cX1_aWedding 38 = .ok (.iastore, 1) := dk_79 (dk_at dksX1_aWedding_1 14 rfl rfl)
theorem dX1_aWedding_39 : decode cX1_aWedding 39 = .ok (.return_, 1) := dk_177 (dk_at dksX1_aWedding_1 15 rfl rfl)
abbrev cX1_singleTold : ByteArray := prog_1_method_10_code
def yX1_singleTold : MethodName := ⟨RX1, "singleTold", "(LHungFaces$World;)I"⟩
def dkwX1_singleTold_1 : List UInt8 := [28, 172]
abbrev dktX1_singleTold_1 : List UInt8 := dkwX1_singleTold_1 ++ []
def dkwX1_singleTold_0 : List UInt8 := [42, 43, 182, 0, 142, 61, 43, 180, 0, 126, 28, 46, 2, 159, 0, 11, 42, 180, 0, 25, 182, 0, 98, 191]
abbrev dktX1_singleTold_0 : List UInt8 := dkwX1_singleTold_0 ++ dktX1_singleTold_1
theorem dksX1_singleTold_0 : cX1_singleTold.data.toList.drop 0 = dktX1_singleTold_0 := by decide +kernel
theorem dksX1_singleTold_1 : cX1_singleTold.data.toList.drop 24 = dktX1_singleTold_1 := dk_seg dksX1_singleTold_0 24 rfl rfl
theorem dX1_singleTold_0 : decode cX1_singleTold 0 = .ok (.aload_n 0, 1) := dk_42 (dk_at dksX1_singleTold_0 0 rfl rfl)
theorem dX1_singleTold_1 : decode cX1_singleTold 1 = .ok (.aload_n 1, 1) := dk_43 (dk_at dksX1_singleTold_0 1 rfl rfl)
theorem dX1_singleTold_2 : decode cX1_singleTold 2 = .ok (.invokevirtual 142, 3) := dk_182 0 142 (dk_at dksX1_singleTold_0 2 rfl rfl)
theorem dX1_singleTold_5 : decode cX1_singleTold 5 = .ok (.istore_n 2, 1) := dk_61 (dk_at dksX1_singleTold_0 5 rfl rfl)
theorem dX1_singleTold_6 : decode cX1_singleTold 6 = .ok (.aload_n 1, 1) := dk_43 (dk_at dksX1_singleTold_0 6 rfl rfl)
theorem dX1_singleTold_7 : decode cX1_singleTold 7 = .ok (.getfield 126, 3) := dk_180 0 126 (dk_at dksX1_singleTold_0 7 rfl rfl)
theorem dX1_singleTold_10 : decode cX1_singleTold 10 = .ok (.iload_n 2, 1) := dk_28 (dk_at dksX1_singleTold_0 10 rfl rfl)
theorem dX1_singleTold_11 : decode cX1_singleTold 11 = .ok (.iaload, 1) := dk_46 (dk_at dksX1_singleTold_0 11 rfl rfl)
theorem dX1_singleTold_12 : decode cX1_singleTold 12 = .ok (.iconst (-1), 1) := dk_2 (dk_at dksX1_singleTold_0 12 rfl rfl)
theorem dX1_singleTold_13 : decode cX1_singleTold 13 = .ok (.if_icmp .eq 11, 3) := dk_159 0 11 (dk_at dksX1_singleTold_0 13 rfl rfl)
theorem dX1_singleTold_16 : decode cX1_singleTold 16 = .ok (.aload_n 0, 1) := dk_42 (dk_at dksX1_singleTold_0 16 rfl rfl)
theorem dX1_singleTold_17 : decode cX1_singleTold 17 = .ok (.getfield 25, 3) := dk_180 0 25 (dk_at dksX1_singleTold_0 17 rfl rfl)
theorem dX1_singleTold_20 : decode cX1_singleTold 20 = .ok (.invokevirtual 98, 3) := dk_182 0 98 (dk_at dksX1_singleTold_0 20 rfl rfl)
theorem dX1_singleTold_23 : decode cX1_singleTold 23 = .ok (.athrow, 1) := dk_191 (dk_at dksX1_singleTold_0 23 rfl rfl)
theorem dX1_singleTold_24 : decode cX1_singleTold 24 = .ok (.iload_n 2, 1) := dk_28 (dk_at dksX1_singleTold_1 0 rfl rfl)
theorem dX1_singleTold_25 : decode cX1_singleTold 25 = .ok (.ireturn, 1) := dk_172 (dk_at dksX1_singleTold_1 1 rfl rfl)
abbrev cX1_aKnowing : ByteArray := prog_1_method_12_code
def yX1_aKnowing : MethodName := ⟨RX1, "aKnowing", "(LHungFaces$World;)V"⟩
def dkwX1_aKnowing_2 : List UInt8 := [154, 255, 221, 177]
abbrev dktX1_aKnowing_2 : List UInt8 := dkwX1_aKnowing_2 ++ []
def dkwX1_aKnowing_1 : List UInt8 := [44, 182, 0, 98, 191, 43, 180, 0, 129, 29, 92, 46, 4, 21, 4, 120, 128, 79, 44, 182, 0, 153]
abbrev dktX1_aKnowing_1 : List UInt8 := dkwX1_aKnowing_1 ++ dktX1_aKnowing_2
def dkwX1_aKnowing_0 : List UInt8 := [42, 180, 0, 25, 77, 42, 43, 182, 0, 142, 62, 42, 43, 182, 0, 142, 54, 4, 21, 4, 29, 160, 0, 8]
abbrev dktX1_aKnowing_0 : List UInt8 := dkwX1_aKnowing_0 ++ dktX1_aKnowing_1
theorem dksX1_aKnowing_0 : cX1_aKnowing.data.toList.drop 0 = dktX1_aKnowing_0 := by decide +kernel
theorem dksX1_aKnowing_1 : cX1_aKnowing.data.toList.drop 24 = dktX1_aKnowing_1 := dk_seg dksX1_aKnowing_0 24 rfl rfl
theorem dksX1_aKnowing_2 : cX1_aKnowing.data.toList.drop 46 = dktX1_aKnowing_2 := dk_seg dksX1_aKnowing_1 22 rfl rfl
theorem dX1_aKnowing_0 : decode cX1_aKnowing 0 = .ok (.aload_n 0, 1) := dk_42 (dk_at dksX1_aKnowing_0 0 rfl rfl)
theorem dX1_aKnowing_1 : decode cX1_aKnowing 1 = .ok (.getfield 25, 3) := dk_180 0 25 (dk_at dksX1_aKnowing_0 1 rfl rfl)
theorem dX1_aKnowing_4 : decode cX1_aKnowing 4 = .ok (.astore_n 2, 1) := dk_77 (dk_at dksX1_aKnowing_0 4 rfl rfl)
theorem dX1_aKnowing_5 : decode cX1_aKnowing 5 = .ok (.aload_n 0, 1) := dk_42 (dk_at dksX1_aKnowing_0 5 rfl rfl)
theorem dX1_aKnowing_6 : decode cX1_aKnowing 6 = .ok (.aload_n 1, 1) := dk_43 (dk_at dksX1_aKnowing_0 6 rfl rfl)
theorem dX1_aKnowing_7 : decode cX1_aKnowing 7 = .ok (.invokevirtual 142, 3) := dk_182 0 142 (dk_at dksX1_aKnowing_0 7 rfl rfl)
theorem dX1_aKnowing_10 : decode cX1_aKnowing 10 = .ok (.istore_n 3, 1) := dk_62 (dk_at dksX1_aKnowing_0 10 rfl rfl)
theorem dX1_aKnowing_11 : decode cX1_aKnowing 11 = .ok (.aload_n 0, 1) := dk_42 (dk_at dksX1_aKnowing_0 11 rfl rfl)
theorem dX1_aKnowing_12 : decode cX1_aKnowing 12 = .ok (.aload_n 1, 1) := dk_43 (dk_at dksX1_aKnowing_0 12 rfl rfl)
theorem dX1_aKnowing_13 : decode cX1_aKnowing 13 = .ok (.invokevirtual 142, 3) := dk_182 0 142 (dk_at dksX1_aKnowing_0 13 rfl rfl)
theorem dX1_aKnowing_16 : decode cX1_aKnowing 16 = .ok (.istore 4, 2) := dk_54 4 (dk_at dksX1_aKnowing_0 16 rfl rfl)
theorem dX1_aKnowing_18 : decode cX1_aKnowing 18 = .ok (.iload 4, 2) := dk_21 4 (dk_at dksX1_aKnowing_0 18 rfl rfl)
theorem dX1_aKnowing_20 : decode cX1_aKnowing 20 = .ok (.iload_n 3, 1) := dk_29 (dk_at dksX1_aKnowing_0 20 rfl rfl)
theorem dX1_aKnowing_21 : decode cX1_aKnowing 21 = .ok (.if_icmp .ne 8, 3) := dk_160 0 8 (dk_at dksX1_aKnowing_0 21 rfl rfl)
theorem dX1_aKnowing_24 : decode cX1_aKnowing 24 = .ok (.aload_n 2, 1) := dk_44 (dk_at dksX1_aKnowing_1 0 rfl rfl)
theorem dX1_aKnowing_25 : decode cX1_aKnowing 25 = .ok (.invokevirtual 98, 3) := dk_182 0 98 (dk_at dksX1_aKnowing_1 1 rfl rfl)
theorem dX1_aKnowing_28 : decode cX1_aKnowing 28 = .ok (.athrow, 1) := dk_191 (dk_at dksX1_aKnowing_1 4 rfl rfl)
theorem dX1_aKnowing_29 : decode cX1_aKnowing 29 = .ok (.aload_n 1, 1) := dk_43 (dk_at dksX1_aKnowing_1 5 rfl rfl)
theorem dX1_aKnowing_30 : decode cX1_aKnowing 30 = .ok (.getfield 129, 3) := dk_180 0 129 (dk_at dksX1_aKnowing_1 6 rfl rfl)
theorem dX1_aKnowing_33 : decode cX1_aKnowing 33 = .ok (.iload_n 3, 1) := dk_29 (dk_at dksX1_aKnowing_1 9 rfl rfl)
theorem dX1_aKnowing_34 : decode cX1_aKnowing 34 = .ok (.dup2, 1) := dk_92 (dk_at dksX1_aKnowing_1 10 rfl rfl)
theorem dX1_aKnowing_35 : decode cX1_aKnowing 35 = .ok (.iaload, 1) := dk_46 (dk_at dksX1_aKnowing_1 11 rfl rfl)
theorem dX1_aKnowing_36 : decode cX1_aKnowing 36 = .ok (.iconst 1, 1) := dk_4 (dk_at dksX1_aKnowing_1 12 rfl rfl)
theorem dX1_aKnowing_37 : decode cX1_aKnowing 37 = .ok (.iload 4, 2) := dk_21 4 (dk_at dksX1_aKnowing_1 13 rfl rfl)
theorem dX1_aKnowing_39 : decode cX1_aKnowing 39 = .ok (.ishl, 1) := dk_120 (dk_at dksX1_aKnowing_1 15 rfl rfl)
theorem dX1_aKnowing_40 : decode cX1_aKnowing 40 = .ok (.ior, 1) := dk_128 (dk_at dksX1_aKnowing_1 16 rfl rfl)
theorem dX1_aKnowing_41 : decode cX1_aKnowing 41 = .ok (.iastore, 1) := dk_79 (dk_at dksX1_aKnowing_1 17 rfl rfl)
theorem dX1_aKnowing_42 : decode cX1_aKnowing 42 = .ok (.aload_n 2, 1) := dk_44 (dk_at dksX1_aKnowing_1 18 rfl rfl)
theorem dX1_aKnowing_43 : decode cX1_aKnowing 43 = .ok (.invokevirtual 153, 3) := dk_182 0 153 (dk_at dksX1_aKnowing_1 19 rfl rfl)
theorem dX1_aKnowing_46 : decode cX1_aKnowing 46 = .ok (.ifCond .ne (-35), 3) := dk_154 255 221 (dk_at dksX1_aKnowing_2 0 rfl rfl)
theorem dX1_aKnowing_49 : decode cX1_aKnowing 49 = .ok (.return_, 1) := dk_177 (dk_at dksX1_aKnowing_2 3 rfl rfl)
abbrev cX1_theHooks : ByteArray := prog_1_method_13_code
def yX1_theHooks : MethodName := ⟨RX1, "theHooks", "(LHungFaces$World;)V"⟩
def dkwX1_theHooks_2 : List UInt8 := [167, 255, 221, 43, 28, 181, 0, 166, 177]
abbrev dktX1_theHooks_2 : List UInt8 := dkwX1_theHooks_2 ++ []
def dkwX1_theHooks_1 : List UInt8 := [46, 2, 160, 0, 11, 43, 29, 182, 0, 163, 153, 0, 11, 42, 180, 0, 25, 182, 0, 98, 191, 132, 3, 1]
abbrev dktX1_theHooks_1 : List UInt8 := dkwX1_theHooks_1 ++ dktX1_theHooks_2
def dkwX1_theHooks_0 : List UInt8 := [42, 180, 0, 25, 4, 16, 12, 182, 0, 105, 61, 28, 62, 29, 16, 12, 162, 0, 35, 43, 180, 0, 160, 29]
abbrev dktX1_theHooks_0 : List UInt8 := dkwX1_theHooks_0 ++ dktX1_theHooks_1
theorem dksX1_theHooks_0 : cX1_theHooks.data.toList.drop 0 = dktX1_theHooks_0 := by decide +kernel
theorem dksX1_theHooks_1 : cX1_theHooks.data.toList.drop 24 = dktX1_theHooks_1 := dk_seg dksX1_theHooks_0 24 rfl rfl
theorem dksX1_theHooks_2 : cX1_theHooks.data.toList.drop 48 = dktX1_theHooks_2 := dk_seg dksX1_theHooks_1 24 rfl rfl
theorem dX1_theHooks_0 : decode cX1_theHooks 0 = .ok (.aload_n 0, 1) := dk_42 (dk_at dksX1_theHooks_0 0 rfl rfl)
theorem dX1_theHooks_1 : decode cX1_theHooks 1 = .ok (.getfield 25, 3) := dk_180 0 25 (dk_at dksX1_theHooks_0 1 rfl rfl)
theorem dX1_theHooks_4 : decode cX1_theHooks 4 = .ok (.iconst 1, 1) := dk_4 (dk_at dksX1_theHooks_0 4 rfl rfl)
theorem dX1_theHooks_5 : decode cX1_theHooks 5 = .ok (.bipush 12, 2) := dk_16 12 (dk_at dksX1_theHooks_0 5 rfl rfl)
theorem dX1_theHooks_7 : decode cX1_theHooks 7 = .ok (.invokevirtual 105, 3) := dk_182 0 105 (dk_at dksX1_theHooks_0 7 rfl rfl)
theorem dX1_theHooks_10 : decode cX1_theHooks 10 = .ok (.istore_n 2, 1) := dk_61 (dk_at dksX1_theHooks_0 10 rfl rfl)
theorem dX1_theHooks_11 : decode cX1_theHooks 11 = .ok (.iload_n 2, 1) := dk_28 (dk_at dksX1_theHooks_0 11 rfl rfl)
theorem dX1_theHooks_12 : decode cX1_theHooks 12 = .ok (.istore_n 3, 1) := dk_62 (dk_at dksX1_theHooks_0 12 rfl rfl)
theorem dX1_theHooks_13 : decode cX1_theHooks 13 = .ok (.iload_n 3, 1) := dk_29 (dk_at dksX1_theHooks_0 13 rfl rfl)
theorem dX1_theHooks_14 : decode cX1_theHooks 14 = .ok (.bipush 12, 2) := dk_16 12 (dk_at dksX1_theHooks_0 14 rfl rfl)
theorem dX1_theHooks_16 : decode cX1_theHooks 16 = .ok (.if_icmp .ge 35, 3) := dk_162 0 35 (dk_at dksX1_theHooks_0 16 rfl rfl)
theorem dX1_theHooks_19 : decode cX1_theHooks 19 = .ok (.aload_n 1, 1) := dk_43 (dk_at dksX1_theHooks_0 19 rfl rfl)
theorem dX1_theHooks_20 : decode cX1_theHooks 20 = .ok (.getfield 160, 3) := dk_180 0 160 (dk_at dksX1_theHooks_0 20 rfl rfl)
theorem dX1_theHooks_23 : decode cX1_theHooks 23 = .ok (.iload_n 3, 1) := dk_29 (dk_at dksX1_theHooks_0 23 rfl rfl)
theorem dX1_theHooks_24 : decode cX1_theHooks 24 = .ok (.iaload, 1) := dk_46 (dk_at dksX1_theHooks_1 0 rfl rfl)
theorem dX1_theHooks_25 : decode cX1_theHooks 25 = .ok (.iconst (-1), 1) := dk_2 (dk_at dksX1_theHooks_1 1 rfl rfl)
theorem dX1_theHooks_26 : decode cX1_theHooks 26 = .ok (.if_icmp .ne 11, 3) := dk_160 0 11 (dk_at dksX1_theHooks_1 2 rfl rfl)
theorem dX1_theHooks_29 : decode cX1_theHooks 29 = .ok (.aload_n 1, 1) := dk_43 (dk_at dksX1_theHooks_1 5 rfl rfl)
theorem dX1_theHooks_30 : decode cX1_theHooks 30 = .ok (.iload_n 3, 1) := dk_29 (dk_at dksX1_theHooks_1 6 rfl rfl)
theorem dX1_theHooks_31 : decode cX1_theHooks 31 = .ok (.invokevirtual 163, 3) := dk_182 0 163 (dk_at dksX1_theHooks_1 7 rfl rfl)
theorem dX1_theHooks_34 : decode cX1_theHooks 34 = .ok (.ifCond .eq 11, 3) := dk_153 0 11 (dk_at dksX1_theHooks_1 10 rfl rfl)
theorem dX1_theHooks_37 : decode cX1_theHooks 37 = .ok (.aload_n 0, 1) := dk_42 (dk_at dksX1_theHooks_1 13 rfl rfl)
theorem dX1_theHooks_38 : decode cX1_theHooks 38 = .ok (.getfield 25, 3) := dk_180 0 25 (dk_at dksX1_theHooks_1 14 rfl rfl)
theorem dX1_theHooks_41 : decode cX1_theHooks 41 = .ok (.invokevirtual 98, 3) := dk_182 0 98 (dk_at dksX1_theHooks_1 17 rfl rfl)
theorem dX1_theHooks_44 : decode cX1_theHooks 44 = .ok (.athrow, 1) := dk_191 (dk_at dksX1_theHooks_1 20 rfl rfl)
theorem dX1_theHooks_45 : decode cX1_theHooks 45 = .ok (.iinc 3 1, 3) := dk_132 3 1 (dk_at dksX1_theHooks_1 21 rfl rfl)
theorem dX1_theHooks_48 : decode cX1_theHooks 48 = .ok (.goto (-35), 3) := dk_167 255 221 (dk_at dksX1_theHooks_2 0 rfl rfl)
theorem dX1_theHooks_51 : decode cX1_theHooks 51 = .ok (.aload_n 1, 1) := dk_43 (dk_at dksX1_theHooks_2 3 rfl rfl)
theorem dX1_theHooks_52 : decode cX1_theHooks 52 = .ok (.iload_n 2, 1) := dk_28 (dk_at dksX1_theHooks_2 4 rfl rfl)
theorem dX1_theHooks_53 : decode cX1_theHooks 53 = .ok (.putfield 166, 3) := dk_181 0 166 (dk_at dksX1_theHooks_2 5 rfl rfl)
theorem dX1_theHooks_56 : decode cX1_theHooks 56 = .ok (.return_, 1) := dk_177 (dk_at dksX1_theHooks_2 8 rfl rfl)
abbrev cX1_goesOn : ByteArray := prog_1_method_17_code
def yX1_goesOn : MethodName := ⟨RX1, "goesOn", "()Z"⟩
def dkwX1_goesOn_1 : List UInt8 := [4, 172, 42, 180, 0, 25, 182, 0, 98, 191]
abbrev dktX1_goesOn_1 : List UInt8 := dkwX1_goesOn_1 ++ []
def dkwX1_goesOn_0 : List UInt8 := [42, 180, 0, 25, 182, 0, 214, 153, 0, 5, 3, 172, 42, 180, 0, 25, 16, 59, 182, 0, 227, 153, 0, 5]
abbrev dktX1_goesOn_0 : List UInt8 := dkwX1_goesOn_0 ++ dktX1_goesOn_1
theorem dksX1_goesOn_0 : cX1_goesOn.data.toList.drop 0 = dktX1_goesOn_0 := by decide +kernel
theorem dksX1_goesOn_1 : cX1_goesOn.data.toList.drop 24 = dktX1_goesOn_1 := dk_seg dksX1_goesOn_0 24 rfl rfl
theorem dX1_goesOn_0 : decode cX1_goesOn 0 = .ok (.aload_n 0, 1) := dk_42 (dk_at dksX1_goesOn_0 0 rfl rfl)
theorem dX1_goesOn_1 : decode cX1_goesOn 1 = .ok (.getfield 25, 3) := dk_180 0 25 (dk_at dksX1_goesOn_0 1 rfl rfl)
theorem dX1_goesOn_4 : decode cX1_goesOn 4 = .ok (.invokevirtual 214, 3) := dk_182 0 214 (dk_at dksX1_goesOn_0 4 rfl rfl)
theorem dX1_goesOn_7 : decode cX1_goesOn 7 = .ok (.ifCond .eq 5, 3) := dk_153 0 5 (dk_at dksX1_goesOn_0 7 rfl rfl)
theorem dX1_goesOn_10 : decode cX1_goesOn 10 = .ok (.iconst 0, 1) := dk_3 (dk_at dksX1_goesOn_0 10 rfl rfl)
theorem dX1_goesOn_11 : decode cX1_goesOn 11 = .ok (.ireturn, 1) := dk_172 (dk_at dksX1_goesOn_0 11 rfl rfl)
theorem dX1_goesOn_12 : decode cX1_goesOn 12 = .ok (.aload_n 0, 1) := dk_42 (dk_at dksX1_goesOn_0 12 rfl rfl)
theorem dX1_goesOn_13 : decode cX1_goesOn 13 = .ok (.getfield 25, 3) := dk_180 0 25 (dk_at dksX1_goesOn_0 13 rfl rfl)
theorem dX1_goesOn_16 : decode cX1_goesOn 16 = .ok (.bipush 59, 2) := dk_16 59 (dk_at dksX1_goesOn_0 16 rfl rfl)
theorem dX1_goesOn_18 : decode cX1_goesOn 18 = .ok (.invokevirtual 227, 3) := dk_182 0 227 (dk_at dksX1_goesOn_0 18 rfl rfl)
theorem dX1_goesOn_21 : decode cX1_goesOn 21 = .ok (.ifCond .eq 5, 3) := dk_153 0 5 (dk_at dksX1_goesOn_0 21 rfl rfl)
theorem dX1_goesOn_24 : decode cX1_goesOn 24 = .ok (.iconst 1, 1) := dk_4 (dk_at dksX1_goesOn_1 0 rfl rfl)
theorem dX1_goesOn_25 : decode cX1_goesOn 25 = .ok (.ireturn, 1) := dk_172 (dk_at dksX1_goesOn_1 1 rfl rfl)
theorem dX1_goesOn_26 : decode cX1_goesOn 26 = .ok (.aload_n 0, 1) := dk_42 (dk_at dksX1_goesOn_1 2 rfl rfl)
theorem dX1_goesOn_27 : decode cX1_goesOn 27 = .ok (.getfield 25, 3) := dk_180 0 25 (dk_at dksX1_goesOn_1 3 rfl rfl)
theorem dX1_goesOn_30 : decode cX1_goesOn 30 = .ok (.invokevirtual 98, 3) := dk_182 0 98 (dk_at dksX1_goesOn_1 6 rfl rfl)
theorem dX1_goesOn_33 : decode cX1_goesOn 33 = .ok (.athrow, 1) := dk_191 (dk_at dksX1_goesOn_1 9 rfl rfl)
abbrev cX1_fails : ByteArray := prog_1_method_18_code
def yX1_fails : MethodName := ⟨RX1, "fails", "()V"⟩
def dkwX1_fails_0 : List UInt8 := [42, 180, 0, 25, 42, 180, 0, 25, 180, 0, 95, 181, 0, 77, 187, 0, 230, 89, 183, 0, 232, 191]
abbrev dktX1_fails_0 : List UInt8 := dkwX1_fails_0 ++ []
theorem dksX1_fails_0 : cX1_fails.data.toList.drop 0 = dktX1_fails_0 := by decide +kernel
theorem dX1_fails_0 : decode cX1_fails 0 = .ok (.aload_n 0, 1) := dk_42 (dk_at dksX1_fails_0 0 rfl rfl)
theorem dX1_fails_1 : decode cX1_fails 1 = .ok (.getfield 25, 3) := dk_180 0 25 (dk_at dksX1_fails_0 1 rfl rfl)
theorem dX1_fails_4 : decode cX1_fails 4 = .ok (.aload_n 0, 1) := dk_42 (dk_at dksX1_fails_0 4 rfl rfl)
theorem dX1_fails_5 : decode cX1_fails 5 = .ok (.getfield 25, 3) := dk_180 0 25 (dk_at dksX1_fails_0 5 rfl rfl)
theorem dX1_fails_8 : decode cX1_fails 8 = .ok (.getfield 95, 3) := dk_180 0 95 (dk_at dksX1_fails_0 8 rfl rfl)
theorem dX1_fails_11 : decode cX1_fails 11 = .ok (.putfield 77, 3) := dk_181 0 77 (dk_at dksX1_fails_0 11 rfl rfl)
theorem dX1_fails_14 : decode cX1_fails 14 = .ok (.new 230, 3) := dk_187 0 230 (dk_at dksX1_fails_0 14 rfl rfl)
theorem dX1_fails_17 : decode cX1_fails 17 = .ok (.dup, 1) := dk_89 (dk_at dksX1_fails_0 17 rfl rfl)
theorem dX1_fails_18 : decode cX1_fails 18 = .ok (.invokespecial 232, 3) := dk_183 0 232 (dk_at dksX1_fails_0 18 rfl rfl)
theorem dX1_fails_21 : decode cX1_fails 21 = .ok (.athrow, 1) := dk_191 (dk_at dksX1_fails_0 21 rfl rfl)
abbrev cX1_law : ByteArray := prog_1_method_27_code
def yX1_law : MethodName := ⟨RX1, "law", "()I"⟩
def dkwX1_law_2 : List UInt8 := [180, 1, 105, 180, 1, 91, 182, 1, 94, 172]
abbrev dktX1_law_2 : List UInt8 := dkwX1_law_2 ++ []
def dkwX1_law_1 : List UInt8 := [181, 0, 77, 167, 0, 8, 76, 42, 182, 0, 245, 42, 180, 0, 39, 182, 0, 254, 42, 180, 0, 10]
abbrev dktX1_law_1 : List UInt8 := dkwX1_law_1 ++ dktX1_law_2
def dkwX1_law_0 : List UInt8 := [42, 180, 0, 25, 182, 0, 233, 42, 180, 0, 10, 42, 182, 1, 101, 181, 1, 105, 42, 180, 0, 25, 2]
abbrev dktX1_law_0 : List UInt8 := dkwX1_law_0 ++ dktX1_law_1
theorem dksX1_law_0 : cX1_law.data.toList.drop 0 = dktX1_law_0 := by decide +kernel
theorem dksX1_law_1 : cX1_law.data.toList.drop 23 = dktX1_law_1 := dk_seg dksX1_law_0 23 rfl rfl
theorem dksX1_law_2 : cX1_law.data.toList.drop 45 = dktX1_law_2 := dk_seg dksX1_law_1 22 rfl rfl
theorem dX1_law_0 : decode cX1_law 0 = .ok (.aload_n 0, 1) := dk_42 (dk_at dksX1_law_0 0 rfl rfl)
theorem dX1_law_1 : decode cX1_law 1 = .ok (.getfield 25, 3) := dk_180 0 25 (dk_at dksX1_law_0 1 rfl rfl)
theorem dX1_law_4 : decode cX1_law 4 = .ok (.invokevirtual 233, 3) := dk_182 0 233 (dk_at dksX1_law_0 4 rfl rfl)
theorem dX1_law_7 : decode cX1_law 7 = .ok (.aload_n 0, 1) := dk_42 (dk_at dksX1_law_0 7 rfl rfl)
theorem dX1_law_8 : decode cX1_law 8 = .ok (.getfield 10, 3) := dk_180 0 10 (dk_at dksX1_law_0 8 rfl rfl)
theorem dX1_law_11 : decode cX1_law 11 = .ok (.aload_n 0, 1) := dk_42 (dk_at dksX1_law_0 11 rfl rfl)
theorem dX1_law_12 : decode cX1_law 12 = .ok (.invokevirtual 357, 3) := dk_182 1 101 (dk_at dksX1_law_0 12 rfl rfl)
theorem dX1_law_15 : decode cX1_law 15 = .ok (.putfield 361, 3) := dk_181 1 105 (dk_at dksX1_law_0 15 rfl rfl)
theorem dX1_law_18 : decode cX1_law 18 = .ok (.aload_n 0, 1) := dk_42 (dk_at dksX1_law_0 18 rfl rfl)
theorem dX1_law_19 : decode cX1_law 19 = .ok (.getfield 25, 3) := dk_180 0 25 (dk_at dksX1_law_0 19 rfl rfl)
theorem dX1_law_22 : decode cX1_law 22 = .ok (.iconst (-1), 1) := dk_2 (dk_at dksX1_law_0 22 rfl rfl)
theorem dX1_law_23 : decode cX1_law 23 = .ok (.putfield 77, 3) := dk_181 0 77 (dk_at dksX1_law_1 0 rfl rfl)
theorem dX1_law_26 : decode cX1_law 26 = .ok (.goto 8, 3) := dk_167 0 8 (dk_at dksX1_law_1 3 rfl rfl)
theorem dX1_law_29 : decode cX1_law 29 = .ok (.astore_n 1, 1) := dk_76 (dk_at dksX1_law_1 6 rfl rfl)
theorem dX1_law_30 : decode cX1_law 30 = .ok (.aload_n 0, 1) := dk_42 (dk_at dksX1_law_1 7 rfl rfl)
theorem dX1_law_31 : decode cX1_law 31 = .ok (.invokevirtual 245, 3) := dk_182 0 245 (dk_at dksX1_law_1 8 rfl rfl)
theorem dX1_law_34 : decode cX1_law 34 = .ok (.aload_n 0, 1) := dk_42 (dk_at dksX1_law_1 11 rfl rfl)
theorem dX1_law_35 : decode cX1_law 35 = .ok (.getfield 39, 3) := dk_180 0 39 (dk_at dksX1_law_1 12 rfl rfl)
theorem dX1_law_38 : decode cX1_law 38 = .ok (.invokevirtual 254, 3) := dk_182 0 254 (dk_at dksX1_law_1 15 rfl rfl)
theorem dX1_law_41 : decode cX1_law 41 = .ok (.aload_n 0, 1) := dk_42 (dk_at dksX1_law_1 18 rfl rfl)
theorem dX1_law_42 : decode cX1_law 42 = .ok (.getfield 10, 3) := dk_180 0 10 (dk_at dksX1_law_1 19 rfl rfl)
theorem dX1_law_45 : decode cX1_law 45 = .ok (.getfield 361, 3) := dk_180 1 105 (dk_at dksX1_law_2 0 rfl rfl)
theorem dX1_law_48 : decode cX1_law 48 = .ok (.getfield 347, 3) := dk_180 1 91 (dk_at dksX1_law_2 3 rfl rfl)
theorem dX1_law_51 : decode cX1_law 51 = .ok (.invokevirtual 350, 3) := dk_182 1 94 (dk_at dksX1_law_2 6 rfl rfl)
theorem dX1_law_54 : decode cX1_law 54 = .ok (.ireturn, 1) := dk_172 (dk_at dksX1_law_2 9 rfl rfl)
abbrev cX1_lawText : ByteArray := prog_1_method_26_code
def yX1_lawText : MethodName := ⟨RX1, "lawText", "()LHungFaces$Law;"⟩
def dkwX1_lawText_2 : List UInt8 := [182, 0, 224, 154, 255, 227, 43, 176]
abbrev dktX1_lawText_2 : List UInt8 := dkwX1_lawText_2 ++ []
def dkwX1_lawText_1 : List UInt8 := [180, 1, 91, 182, 1, 94, 16, 12, 182, 0, 217, 43, 180, 1, 91, 42, 182, 1, 97, 182, 1, 22, 87, 42]
abbrev dktX1_lawText_1 : List UInt8 := dkwX1_lawText_1 ++ dktX1_lawText_2
def dkwX1_lawText_0 : List UInt8 := [187, 1, 88, 89, 183, 1, 90, 76, 42, 180, 0, 25, 182, 0, 214, 153, 0, 5, 43, 176, 42, 43]
abbrev dktX1_lawText_0 : List UInt8 := dkwX1_lawText_0 ++ dktX1_lawText_1
theorem dksX1_lawText_0 : cX1_lawText.data.toList.drop 0 = dktX1_lawText_0 := by decide +kernel
theorem dksX1_lawText_1 : cX1_lawText.data.toList.drop 22 = dktX1_lawText_1 := dk_seg dksX1_lawText_0 22 rfl rfl
theorem dksX1_lawText_2 : cX1_lawText.data.toList.drop 46 = dktX1_lawText_2 := dk_seg dksX1_lawText_1 24 rfl rfl
theorem dX1_lawText_0 : decode cX1_lawText 0 = .ok (.new 344, 3) := dk_187 1 88 (dk_at dksX1_lawText_0 0 rfl rfl)
theorem dX1_lawText_3 : decode cX1_lawText 3 = .ok (.dup, 1) := dk_89 (dk_at dksX1_lawText_0 3 rfl rfl)
theorem dX1_lawText_4 : decode cX1_lawText 4 = .ok (.invokespecial 346, 3) := dk_183 1 90 (dk_at dksX1_lawText_0 4 rfl rfl)
theorem dX1_lawText_7 : decode cX1_lawText 7 = .ok (.astore_n 1, 1) := dk_76 (dk_at dksX1_lawText_0 7 rfl rfl)
theorem dX1_lawText_8 : decode cX1_lawText 8 = .ok (.aload_n 0, 1) := dk_42 (dk_at dksX1_lawText_0 8 rfl rfl)
theorem dX1_lawText_9 : decode cX1_lawText 9 = .ok (.getfield 25, 3) := dk_180 0 25 (dk_at dksX1_lawText_0 9 rfl rfl)
theorem dX1_lawText_12 : decode cX1_lawText 12 = .ok (.invokevirtual 214, 3) := dk_182 0 214 (dk_at dksX1_lawText_0 12 rfl rfl)
theorem dX1_lawText_15 : decode cX1_lawText 15 = .ok (.ifCond .eq 5, 3) := dk_153 0 5 (dk_at dksX1_lawText_0 15 rfl rfl)
theorem dX1_lawText_18 : decode cX1_lawText 18 = .ok (.aload_n 1, 1) := dk_43 (dk_at dksX1_lawText_0 18 rfl rfl)
theorem dX1_lawText_19 : decode cX1_lawText 19 = .ok (.areturn, 1) := dk_176 (dk_at dksX1_lawText_0 19 rfl rfl)
theorem dX1_lawText_20 : decode cX1_lawText 20 = .ok (.aload_n 0, 1) := dk_42 (dk_at dksX1_lawText_0 20 rfl rfl)
theorem dX1_lawText_21 : decode cX1_lawText 21 = .ok (.aload_n 1, 1) := dk_43 (dk_at dksX1_lawText_0 21 rfl rfl)
theorem dX1_lawText_22 : decode cX1_lawText 22 = .ok (.getfield 347, 3) := dk_180 1 91 (dk_at dksX1_lawText_1 0 rfl rfl)
theorem dX1_lawText_25 : decode cX1_lawText 25 = .ok (.invokevirtual 350, 3) := dk_182 1 94 (dk_at dksX1_lawText_1 3 rfl rfl)
theorem dX1_lawText_28 : decode cX1_lawText 28 = .ok (.bipush 12, 2) := dk_16 12 (dk_at dksX1_lawText_1 6 rfl rfl)
theorem dX1_lawText_30 : decode cX1_lawText 30 = .ok (.invokevirtual 217, 3) := dk_182 0 217 (dk_at dksX1_lawText_1 8 rfl rfl)
theorem dX1_lawText_33 : decode cX1_lawText 33 = .ok (.aload_n 1, 1) := dk_43 (dk_at dksX1_lawText_1 11 rfl rfl)
theorem dX1_lawText_34 : decode cX1_lawText 34 = .ok (.getfield 347, 3) := dk_180 1 91 (dk_at dksX1_lawText_1 12 rfl rfl)
theorem dX1_lawText_37 : decode cX1_lawText 37 = .ok (.aload_n 0, 1) := dk_42 (dk_at dksX1_lawText_1 15 rfl rfl)
theorem dX1_lawText_38 : decode cX1_lawText 38 = .ok (.invokevirtual 353, 3) := dk_182 1 97 (dk_at dksX1_lawText_1 16 rfl rfl)
theorem dX1_lawText_41 : decode cX1_lawText 41 = .ok (.invokevirtual 278, 3) := dk_182 1 22 (dk_at dksX1_lawText_1 19 rfl rfl)
theorem dX1_lawText_44 : decode cX1_lawText 44 = .ok (.pop, 1) := dk_87 (dk_at dksX1_lawText_1 22 rfl rfl)
theorem dX1_lawText_45 : decode cX1_lawText 45 = .ok (.aload_n 0, 1) := dk_42 (dk_at dksX1_lawText_1 23 rfl rfl)
theorem dX1_lawText_46 : decode cX1_lawText 46 = .ok (.invokevirtual 224, 3) := dk_182 0 224 (dk_at dksX1_lawText_2 0 rfl rfl)
theorem dX1_lawText_49 : decode cX1_lawText 49 = .ok (.ifCond .ne (-29), 3) := dk_154 255 227 (dk_at dksX1_lawText_2 3 rfl rfl)
theorem dX1_lawText_52 : decode cX1_lawText 52 = .ok (.aload_n 1, 1) := dk_43 (dk_at dksX1_lawText_2 6 rfl rfl)
theorem dX1_lawText_53 : decode cX1_lawText 53 = .ok (.areturn, 1) := dk_176 (dk_at dksX1_lawText_2 7 rfl rfl)
abbrev cX1_lawLine : ByteArray := prog_1_method_25_code
def yX1_lawLine : MethodName := ⟨RX1, "lawLine", "()LHungFaces$Line;"⟩
def dkwX1_lawLine_2 : List UInt8 := [19, 1, 83, 182, 1, 36, 153, 0, 10, 42, 182, 1, 27, 167, 0, 4, 1, 183, 1, 85, 176]
abbrev dktX1_lawLine_2 : List UInt8 := dkwX1_lawLine_2 ++ []
def dkwX1_lawLine_1 : List UInt8 := [182, 0, 180, 154, 0, 11, 42, 180, 0, 25, 182, 0, 98, 191, 187, 1, 81, 89, 28, 42, 180, 0, 25]
abbrev dktX1_lawLine_1 : List UInt8 := dkwX1_lawLine_1 ++ dktX1_lawLine_2
def dkwX1_lawLine_0 : List UInt8 := [42, 180, 0, 25, 182, 0, 169, 76, 43, 19, 1, 77, 182, 0, 180, 61, 28, 154, 0, 21, 43, 19, 1, 79]
abbrev dktX1_lawLine_0 : List UInt8 := dkwX1_lawLine_0 ++ dktX1_lawLine_1
theorem dksX1_lawLine_0 : cX1_lawLine.data.toList.drop 0 = dktX1_lawLine_0 := by decide +kernel
theorem dksX1_lawLine_1 : cX1_lawLine.data.toList.drop 24 = dktX1_lawLine_1 := dk_seg dksX1_lawLine_0 24 rfl rfl
theorem dksX1_lawLine_2 : cX1_lawLine.data.toList.drop 47 = dktX1_lawLine_2 := dk_seg dksX1_lawLine_1 23 rfl rfl
theorem dX1_lawLine_0 : decode cX1_lawLine 0 = .ok (.aload_n 0, 1) := dk_42 (dk_at dksX1_lawLine_0 0 rfl rfl)
theorem dX1_lawLine_1 : decode cX1_lawLine 1 = .ok (.getfield 25, 3) := dk_180 0 25 (dk_at dksX1_lawLine_0 1 rfl rfl)
theorem dX1_lawLine_4 : decode cX1_lawLine 4 = .ok (.invokevirtual 169, 3) := dk_182 0 169 (dk_at dksX1_lawLine_0 4 rfl rfl)
theorem dX1_lawLine_7 : decode cX1_lawLine 7 = .ok (.astore_n 1, 1) := dk_76 (dk_at dksX1_lawLine_0 7 rfl rfl)
theorem dX1_lawLine_8 : decode cX1_lawLine 8 = .ok (.aload_n 1, 1) := dk_43 (dk_at dksX1_lawLine_0 8 rfl rfl)
theorem dX1_lawLine_9 : decode cX1_lawLine 9 = .ok (.ldc_w 333, 3) := dk_19 1 77 (dk_at dksX1_lawLine_0 9 rfl rfl)
theorem dX1_lawLine_12 : decode cX1_lawLine 12 = .ok (.invokevirtual 180, 3) := dk_182 0 180 (dk_at dksX1_lawLine_0 12 rfl rfl)
theorem dX1_lawLine_15 : decode cX1_lawLine 15 = .ok (.istore_n 2, 1) := dk_61 (dk_at dksX1_lawLine_0 15 rfl rfl)
theorem dX1_lawLine_16 : decode cX1_lawLine 16 = .ok (.iload_n 2, 1) := dk_28 (dk_at dksX1_lawLine_0 16 rfl rfl)
theorem dX1_lawLine_17 : decode cX1_lawLine 17 = .ok (.ifCond .ne 21, 3) := dk_154 0 21 (dk_at dksX1_lawLine_0 17 rfl rfl)
theorem dX1_lawLine_20 : decode cX1_lawLine 20 = .ok (.aload_n 1, 1) := dk_43 (dk_at dksX1_lawLine_0 20 rfl rfl)
theorem dX1_lawLine_21 : decode cX1_lawLine 21 = .ok (.ldc_w 335, 3) := dk_19 1 79 (dk_at dksX1_lawLine_0 21 rfl rfl)
theorem dX1_lawLine_24 : decode cX1_lawLine 24 = .ok (.invokevirtual 180, 3) := dk_182 0 180 (dk_at dksX1_lawLine_1 0 rfl rfl)
theorem dX1_lawLine_27 : decode cX1_lawLine 27 = .ok (.ifCond .ne 11, 3) := dk_154 0 11 (dk_at dksX1_lawLine_1 3 rfl rfl)
theorem dX1_lawLine_30 : decode cX1_lawLine 30 = .ok (.aload_n 0, 1) := dk_42 (dk_at dksX1_lawLine_1 6 rfl rfl)
theorem dX1_lawLine_31 : decode cX1_lawLine 31 = .ok (.getfield 25, 3) := dk_180 0 25 (dk_at dksX1_lawLine_1 7 rfl rfl)
theorem dX1_lawLine_34 : decode cX1_lawLine 34 = .ok (.invokevirtual 98, 3) := dk_182 0 98 (dk_at dksX1_lawLine_1 10 rfl rfl)
theorem dX1_lawLine_37 : decode cX1_lawLine 37 = .ok (.athrow, 1) := dk_191 (dk_at dksX1_lawLine_1 13 rfl rfl)
theorem dX1_lawLine_38 : decode cX1_lawLine 38 = .ok (.new 337, 3) := dk_187 1 81 (dk_at dksX1_lawLine_1 14 rfl rfl)
theorem dX1_lawLine_41 : decode cX1_lawLine 41 = .ok (.dup, 1) := dk_89 (dk_at dksX1_lawLine_1 17 rfl rfl)
theorem dX1_lawLine_42 : decode cX1_lawLine 42 = .ok (.iload_n 2, 1) := dk_28 (dk_at dksX1_lawLine_1 18 rfl rfl)
theorem dX1_lawLine_43 : decode cX1_lawLine 43 = .ok (.aload_n 0, 1) := dk_42 (dk_at dksX1_lawLine_1 19 rfl rfl)
theorem dX1_lawLine_44 : decode cX1_lawLine 44 = .ok (.getfield 25, 3) := dk_180 0 25 (dk_at dksX1_lawLine_1 20 rfl rfl)
theorem dX1_lawLine_47 : decode cX1_lawLine 47 = .ok (.ldc_w 339, 3) := dk_19 1 83 (dk_at dksX1_lawLine_2 0 rfl rfl)
theorem dX1_lawLine_50 : decode cX1_lawLine 50 = .ok (.invokevirtual 292, 3) := dk_182 1 36 (dk_at dksX1_lawLine_2 3 rfl rfl)
theorem dX1_lawLine_53 : decode cX1_lawLine 53 = .ok (.ifCond .eq 10, 3) := dk_153 0 10 (dk_at dksX1_lawLine_2 6 rfl rfl)
theorem dX1_lawLine_56 : decode cX1_lawLine 56 = .ok (.aload_n 0, 1) := dk_42 (dk_at dksX1_lawLine_2 9 rfl rfl)
theorem dX1_lawLine_57 : decode cX1_lawLine 57 = .ok (.invokevirtual 283, 3) := dk_182 1 27 (dk_at dksX1_lawLine_2 10 rfl rfl)
theorem dX1_lawLine_60 : decode cX1_lawLine 60 = .ok (.goto 4, 3) := dk_167 0 4 (dk_at dksX1_lawLine_2 13 rfl rfl)
theorem dX1_lawLine_63 : decode cX1_lawLine 63 = .ok (.aconst_null, 1) := dk_1 (dk_at dksX1_lawLine_2 16 rfl rfl)
theorem dX1_lawLine_64 : decode cX1_lawLine 64 = .ok (.invokespecial 341, 3) := dk_183 1 85 (dk_at dksX1_lawLine_2 17 rfl rfl)
theorem dX1_lawLine_67 : decode cX1_lawLine 67 = .ok (.areturn, 1) := dk_176 (dk_at dksX1_lawLine_2 20 rfl rfl)
abbrev cX1_cond : ByteArray := prog_1_method_24_code
def yX1_cond : MethodName := ⟨RX1, "cond", "()LHungFaces$Cond;"⟩
def dkwX1_cond_1 : List UInt8 := [180, 0, 25, 19, 1, 75, 182, 1, 36, 154, 255, 234, 43, 176]
abbrev dktX1_cond_1 : List UInt8 := dkwX1_cond_1 ++ []
def dkwX1_cond_0 : List UInt8 := [187, 1, 64, 89, 3, 183, 1, 66, 76, 43, 180, 1, 67, 42, 182, 1, 72, 182, 1, 22, 87, 42]
abbrev dktX1_cond_0 : List UInt8 := dkwX1_cond_0 ++ dktX1_cond_1
theorem dksX1_cond_0 : cX1_cond.data.toList.drop 0 = dktX1_cond_0 := by decide +kernel
theorem dksX1_cond_1 : cX1_cond.data.toList.drop 22 = dktX1_cond_1 := dk_seg dksX1_cond_0 22 rfl rfl
theorem dX1_cond_0 : decode cX1_cond 0 = .ok (.new 320, 3) := dk_187 1 64 (dk_at dksX1_cond_0 0 rfl rfl)
theorem dX1_cond_3 : decode cX1_cond 3 = .ok (.dup, 1) := dk_89 (dk_at dksX1_cond_0 3 rfl rfl)
theorem dX1_cond_4 : decode cX1_cond 4 = .ok (.iconst 0, 1) := dk_3 (dk_at dksX1_cond_0 4 rfl rfl)
theorem dX1_cond_5 : decode cX1_cond 5 = .ok (.invokespecial 322, 3) := dk_183 1 66 (dk_at dksX1_cond_0 5 rfl rfl)
theorem dX1_cond_8 : decode cX1_cond 8 = .ok (.astore_n 1, 1) := dk_76 (dk_at dksX1_cond_0 8 rfl rfl)
theorem dX1_cond_9 : decode cX1_cond 9 = .ok (.aload_n 1, 1) := dk_43 (dk_at dksX1_cond_0 9 rfl rfl)
theorem dX1_cond_10 : decode cX1_cond 10 = .ok (.getfield 323, 3) := dk_180 1 67 (dk_at dksX1_cond_0 10 rfl rfl)
theorem dX1_cond_13 : decode cX1_cond 13 = .ok (.aload_n 0, 1) := dk_42 (dk_at dksX1_cond_0 13 rfl rfl)
theorem dX1_cond_14 : decode cX1_cond 14 = .ok (.invokevirtual 328, 3) := dk_182 1 72 (dk_at dksX1_cond_0 14 rfl rfl)
theorem dX1_cond_17 : decode cX1_cond 17 = .ok (.invokevirtual 278, 3) := dk_182 1 22 (dk_at dksX1_cond_0 17 rfl rfl)
theorem dX1_cond_20 : decode cX1_cond 20 = .ok (.pop, 1) := dk_87 (dk_at dksX1_cond_0 20 rfl rfl)
theorem dX1_cond_21 : decode cX1_cond 21 = .ok (.aload_n 0, 1) := dk_42 (dk_at dksX1_cond_0 21 rfl rfl)
theorem dX1_cond_22 : decode cX1_cond 22 = .ok (.getfield 25, 3) := dk_180 0 25 (dk_at dksX1_cond_1 0 rfl rfl)
theorem dX1_cond_25 : decode cX1_cond 25 = .ok (.ldc_w 331, 3) := dk_19 1 75 (dk_at dksX1_cond_1 3 rfl rfl)
theorem dX1_cond_28 : decode cX1_cond 28 = .ok (.invokevirtual 292, 3) := dk_182 1 36 (dk_at dksX1_cond_1 6 rfl rfl)
theorem dX1_cond_31 : decode cX1_cond 31 = .ok (.ifCond .ne (-22), 3) := dk_154 255 234 (dk_at dksX1_cond_1 9 rfl rfl)
theorem dX1_cond_34 : decode cX1_cond 34 = .ok (.aload_n 1, 1) := dk_43 (dk_at dksX1_cond_1 12 rfl rfl)
theorem dX1_cond_35 : decode cX1_cond 35 = .ok (.areturn, 1) := dk_176 (dk_at dksX1_cond_1 13 rfl rfl)
abbrev cX1_allOf : ByteArray := prog_1_method_23_code
def yX1_allOf : MethodName := ⟨RX1, "allOf", "()LHungFaces$Cond;"⟩
def dkwX1_allOf_1 : List UInt8 := [180, 0, 25, 19, 1, 70, 182, 1, 36, 154, 255, 234, 43, 176]
abbrev dktX1_allOf_1 : List UInt8 := dkwX1_allOf_1 ++ []
def dkwX1_allOf_0 : List UInt8 := [187, 1, 64, 89, 4, 183, 1, 66, 76, 43, 180, 1, 67, 42, 182, 1, 40, 182, 1, 22, 87, 42]
abbrev dktX1_allOf_0 : List UInt8 := dkwX1_allOf_0 ++ dktX1_allOf_1
theorem dksX1_allOf_0 : cX1_allOf.data.toList.drop 0 = dktX1_allOf_0 := by decide +kernel
theorem dksX1_allOf_1 : cX1_allOf.data.toList.drop 22 = dktX1_allOf_1 := dk_seg dksX1_allOf_0 22 rfl rfl
theorem dX1_allOf_0 : decode cX1_allOf 0 = .ok (.new 320, 3) := dk_187 1 64 (dk_at dksX1_allOf_0 0 rfl rfl)
theorem dX1_allOf_3 : decode cX1_allOf 3 = .ok (.dup, 1) := dk_89 (dk_at dksX1_allOf_0 3 rfl rfl)
theorem dX1_allOf_4 : decode cX1_allOf 4 = .ok (.iconst 1, 1) := dk_4 (dk_at dksX1_allOf_0 4 rfl rfl)
theorem dX1_allOf_5 : decode cX1_allOf 5 = .ok (.invokespecial 322, 3) := dk_183 1 66 (dk_at dksX1_allOf_0 5 rfl rfl)
theorem dX1_allOf_8 : decode cX1_allOf 8 = .ok (.astore_n 1, 1) := dk_76 (dk_at dksX1_allOf_0 8 rfl rfl)
theorem dX1_allOf_9 : decode cX1_allOf 9 = .ok (.aload_n 1, 1) := dk_43 (dk_at dksX1_allOf_0 9 rfl rfl)
theorem dX1_allOf_10 : decode cX1_allOf 10 = .ok (.getfield 323, 3) := dk_180 1 67 (dk_at dksX1_allOf_0 10 rfl rfl)
theorem dX1_allOf_13 : decode cX1_allOf 13 = .ok (.aload_n 0, 1) := dk_42 (dk_at dksX1_allOf_0 13 rfl rfl)
theorem dX1_allOf_14 : decode cX1_allOf 14 = .ok (.invokevirtual 296, 3) := dk_182 1 40 (dk_at dksX1_allOf_0 14 rfl rfl)
theorem dX1_allOf_17 : decode cX1_allOf 17 = .ok (.invokevirtual 278, 3) := dk_182 1 22 (dk_at dksX1_allOf_0 17 rfl rfl)
theorem dX1_allOf_20 : decode cX1_allOf 20 = .ok (.pop, 1) := dk_87 (dk_at dksX1_allOf_0 20 rfl rfl)
theorem dX1_allOf_21 : decode cX1_allOf 21 = .ok (.aload_n 0, 1) := dk_42 (dk_at dksX1_allOf_0 21 rfl rfl)
theorem dX1_allOf_22 : decode cX1_allOf 22 = .ok (.getfield 25, 3) := dk_180 0 25 (dk_at dksX1_allOf_1 0 rfl rfl)
theorem dX1_allOf_25 : decode cX1_allOf 25 = .ok (.ldc_w 326, 3) := dk_19 1 70 (dk_at dksX1_allOf_1 3 rfl rfl)
theorem dX1_allOf_28 : decode cX1_allOf 28 = .ok (.invokevirtual 292, 3) := dk_182 1 36 (dk_at dksX1_allOf_1 6 rfl rfl)
theorem dX1_allOf_31 : decode cX1_allOf 31 = .ok (.ifCond .ne (-22), 3) := dk_154 255 234 (dk_at dksX1_allOf_1 9 rfl rfl)
theorem dX1_allOf_34 : decode cX1_allOf 34 = .ok (.aload_n 1, 1) := dk_43 (dk_at dksX1_allOf_1 12 rfl rfl)
theorem dX1_allOf_35 : decode cX1_allOf 35 = .ok (.areturn, 1) := dk_176 (dk_at dksX1_allOf_1 13 rfl rfl)
abbrev cX1_atom : ByteArray := prog_1_method_22_code
def yX1_atom : MethodName := ⟨RX1, "atom", "()LHungFaces$Cond;"⟩
def dkwX1_atom_6 : List UInt8 := [182, 0, 227, 154, 0, 8, 43, 182, 0, 98, 191, 187, 1, 59, 89, 42, 182, 1, 55, 44, 183, 1, 61, 176]
abbrev dktX1_atom_6 : List UInt8 := dkwX1_atom_6 ++ []
def dkwX1_atom_5 : List UInt8 := [16, 60, 182, 0, 227, 153, 0, 16, 187, 1, 59, 89, 44, 42, 182, 1, 55, 183, 1, 61, 176, 43, 16, 62]
abbrev dktX1_atom_5 : List UInt8 := dkwX1_atom_5 ++ dktX1_atom_6
def dkwX1_atom_4 : List UInt8 := [18, 186, 182, 1, 36, 153, 0, 12, 187, 1, 50, 89, 3, 183, 1, 52, 176, 42, 182, 1, 55, 77, 43]
abbrev dktX1_atom_4 : List UInt8 := dkwX1_atom_4 ++ dktX1_atom_5
def dkwX1_atom_3 : List UInt8 := [183, 1, 45, 176, 43, 19, 1, 48, 182, 1, 36, 153, 0, 12, 187, 1, 50, 89, 4, 183, 1, 52, 176, 43]
abbrev dktX1_atom_3 : List UInt8 := dkwX1_atom_3 ++ dktX1_atom_4
def dkwX1_atom_2 : List UInt8 := [182, 1, 36, 153, 0, 25, 43, 182, 1, 24, 42, 182, 1, 40, 77, 43, 182, 1, 31, 187, 1, 43, 89, 44]
abbrev dktX1_atom_2 : List UInt8 := dkwX1_atom_2 ++ dktX1_atom_3
def dkwX1_atom_1 : List UInt8 := [182, 1, 31, 43, 16, 41, 182, 0, 227, 154, 0, 8, 43, 182, 0, 98, 191, 44, 176, 43, 19, 1, 34]
abbrev dktX1_atom_1 : List UInt8 := dkwX1_atom_1 ++ dktX1_atom_2
def dkwX1_atom_0 : List UInt8 := [42, 180, 0, 25, 76, 43, 16, 40, 182, 0, 227, 153, 0, 32, 43, 182, 1, 24, 42, 182, 1, 27, 77, 43]
abbrev dktX1_atom_0 : List UInt8 := dkwX1_atom_0 ++ dktX1_atom_1
theorem dksX1_atom_0 : cX1_atom.data.toList.drop 0 = dktX1_atom_0 := by decide +kernel
theorem dksX1_atom_1 : cX1_atom.data.toList.drop 24 = dktX1_atom_1 := dk_seg dksX1_atom_0 24 rfl rfl
theorem dksX1_atom_2 : cX1_atom.data.toList.drop 47 = dktX1_atom_2 := dk_seg dksX1_atom_1 23 rfl rfl
theorem dksX1_atom_3 : cX1_atom.data.toList.drop 71 = dktX1_atom_3 := dk_seg dksX1_atom_2 24 rfl rfl
theorem dksX1_atom_4 : cX1_atom.data.toList.drop 95 = dktX1_atom_4 := dk_seg dksX1_atom_3 24 rfl rfl
theorem dksX1_atom_5 : cX1_atom.data.toList.drop 118 = dktX1_atom_5 := dk_seg dksX1_atom_4 23 rfl rfl
theorem dksX1_atom_6 : cX1_atom.data.toList.drop 142 = dktX1_atom_6 := dk_seg dksX1_atom_5 24 rfl rfl
theorem dX1_atom_0 : decode cX1_atom 0 = .ok (.aload_n 0, 1) := dk_42 (dk_at dksX1_atom_0 0 rfl rfl)
theorem dX1_atom_1 : decode cX1_atom 1 = .ok (.getfield 25, 3) := dk_180 0 25 (dk_at dksX1_atom_0 1 rfl rfl)
theorem dX1_atom_4 : decode cX1_atom 4 = .ok (.astore_n 1, 1) := dk_76 (dk_at dksX1_atom_0 4 rfl rfl)
theorem dX1_atom_5 : decode cX1_atom 5 = .ok (.aload_n 1, 1) := dk_43 (dk_at dksX1_atom_0 5 rfl rfl)
theorem dX1_atom_6 : decode cX1_atom 6 = .ok (.bipush 40, 2) := dk_16 40 (dk_at dksX1_atom_0 6 rfl rfl)
theorem dX1_atom_8 : decode cX1_atom 8 = .ok (.invokevirtual 227, 3) := dk_182 0 227 (dk_at dksX1_atom_0 8 rfl rfl)
theorem dX1_atom_11 : decode cX1_atom 11 = .ok (.ifCond .eq 32, 3) := dk_153 0 32 (dk_at dksX1_atom_0 11 rfl rfl)
theorem dX1_atom_14 : decode cX1_atom 14 = .ok (.aload_n 1, 1) := dk_43 (dk_at dksX1_atom_0 14 rfl rfl)
theorem dX1_atom_15 : decode cX1_atom 15 = .ok (.invokevirtual 280, 3) := dk_182 1 24 (dk_at dksX1_atom_0 15 rfl rfl)
theorem dX1_atom_18 : decode cX1_atom 18 = .ok (.aload_n 0, 1) := dk_42 (dk_at dksX1_atom_0 18 rfl rfl)
theorem dX1_atom_19 : decode cX1_atom 19 = .ok (.invokevirtual 283, 3) := dk_182 1 27 (dk_at dksX1_atom_0 19 rfl rfl)
theorem dX1_atom_22 : decode cX1_atom 22 = .ok (.astore_n 2, 1) := dk_77 (dk_at dksX1_atom_0 22 rfl rfl)
theorem dX1_atom_23 : decode cX1_atom 23 = .ok (.aload_n 1, 1) := dk_43 (dk_at dksX1_atom_0 23 rfl rfl)
theorem dX1_atom_24 : decode cX1_atom 24 = .ok (.invokevirtual 287, 3) := dk_182 1 31 (dk_at dksX1_atom_1 0 rfl rfl)
theorem dX1_atom_27 : decode cX1_atom 27 = .ok (.aload_n 1, 1) := dk_43 (dk_at dksX1_atom_1 3 rfl rfl)
theorem dX1_atom_28 : decode cX1_atom 28 = .ok (.bipush 41, 2) := dk_16 41 (dk_at dksX1_atom_1 4 rfl rfl)
theorem dX1_atom_30 : decode cX1_atom 30 = .ok (.invokevirtual 227, 3) := dk_182 0 227 (dk_at dksX1_atom_1 6 rfl rfl)
theorem dX1_atom_33 : decode cX1_atom 33 = .ok (.ifCond .ne 8, 3) := dk_154 0 8 (dk_at dksX1_atom_1 9 rfl rfl)
theorem dX1_atom_36 : decode cX1_atom 36 = .ok (.aload_n 1, 1) := dk_43 (dk_at dksX1_atom_1 12 rfl rfl)
theorem dX1_atom_37 : decode cX1_atom 37 = .ok (.invokevirtual 98, 3) := dk_182 0 98 (dk_at dksX1_atom_1 13 rfl rfl)
theorem dX1_atom_40 : decode cX1_atom 40 = .ok (.athrow, 1) := dk_191 (dk_at dksX1_atom_1 16 rfl rfl)
theorem dX1_atom_41 : decode cX1_atom 41 = .ok (.aload_n 2, 1) := dk_44 (dk_at dksX1_atom_1 17 rfl rfl)
theorem dX1_atom_42 : decode cX1_atom 42 = .ok (.areturn, 1) := dk_176 (dk_at dksX1_atom_1 18 rfl rfl)
theorem dX1_atom_43 : decode cX1_atom 43 = .ok (.aload_n 1, 1) := dk_43 (dk_at dksX1_atom_1 19 rfl rfl)
theorem dX1_atom_44 : decode cX1_atom 44 = .ok (.ldc_w 290, 3) := dk_19 1 34 (dk_at dksX1_atom_1 20 rfl rfl)
theorem dX1_atom_47 : decode cX1_atom 47 = .ok (.invokevirtual 292, 3) := dk_182 1 36 (dk_at dksX1_atom_2 0 rfl rfl)
theorem dX1_atom_50 : decode cX1_atom 50 = .ok (.ifCond .eq 25, 3) := dk_153 0 25 (dk_at dksX1_atom_2 3 rfl rfl)
theorem dX1_atom_53 : decode cX1_atom 53 = .ok (.aload_n 1, 1) := dk_43 (dk_at dksX1_atom_2 6 rfl rfl)
theorem dX1_atom_54 : decode cX1_atom 54 = .ok (.invokevirtual 280, 3) := dk_182 1 24 (dk_at dksX1_atom_2 7 rfl rfl)
theorem dX1_atom_57 : decode cX1_atom 57 = .ok (.aload_n 0, 1) := dk_42 (dk_at dksX1_atom_2 10 rfl rfl)
theorem dX1_atom_58 : decode cX1_atom 58 = .ok (.invokevirtual 296, 3) := dk_182 1 40 (dk_at dksX1_atom_2 11 rfl rfl)
theorem dX1_atom_61 : decode cX1_atom 61 = .ok (.astore_n 2, 1) := dk_77 (dk_at dksX1_atom_2 14 rfl rfl)
theorem dX1_atom_62 : decode cX1_atom 62 = .ok (.aload_n 1, 1) := dk_43 (dk_at dksX1_atom_2 15 rfl rfl)
theorem dX1_atom_63 : decode cX1_atom 63 = .ok (.invokevirtual 287, 3) := dk_182 1 31 (dk_at dksX1_atom_2 16 rfl rfl)
theorem dX1_atom_66 : decode cX1_atom 66 = .ok (.new 299, 3) := dk_187 1 43 (dk_at dksX1_atom_2 19 rfl rfl)
theorem dX1_atom_69 : decode cX1_atom 69 = .ok (.dup, 1) := dk_89 (dk_at dksX1_atom_2 22 rfl rfl)
theorem dX1_atom_70 : decode cX1_atom 70 = .ok (.aload_n 2, 1) := dk_44 (dk_at dksX1_atom_2 23 rfl rfl)
theorem dX1_atom_71 : decode cX1_atom 71 = .ok (.invokespecial 301, 3) := dk_183 1 45 (dk_at dksX1_atom_3 0 rfl rfl)
theorem dX1_atom_74 : decode cX1_atom 74 = .ok (.areturn, 1) := dk_176 (dk_at dksX1_atom_3 3 rfl rfl)
theorem dX1_atom_75 : decode cX1_atom 75 = .ok (.aload_n 1, 1) := dk_43 (dk_at dksX1_atom_3 4 rfl rfl)
theorem dX1_atom_76 : decode cX1_atom 76 = .ok (.ldc_w 304, 3) := dk_19 1 48 (dk_at dksX1_atom_3 5 rfl rfl)
theorem dX1_atom_79 : decode cX1_atom 79 = .ok (.invokevirtual 292, 3) := dk_182 1 36 (dk_at dksX1_atom_3 8 rfl rfl)
theorem dX1_atom_82 : decode cX1_atom 82 = .ok (.ifCond .eq 12, 3) := dk_153 0 12 (dk_at dksX1_atom_3 11 rfl rfl)
theorem dX1_atom_85 : decode cX1_atom 85 = .ok (.new 306, 3) := dk_187 1 50 (dk_at dksX1_atom_3 14 rfl rfl)
theorem dX1_atom_88 : decode cX1_atom 88 = .ok (.dup, 1) := dk_89 (dk_at dksX1_atom_3 17 rfl rfl)
theorem dX1_atom_89 : decode cX1_atom 89 = .ok (.iconst 1, 1) := dk_4 (dk_at dksX1_atom_3 18 rfl rfl)
theorem dX1_atom_90 : decode cX1_atom 90 = .ok (.invokespecial 308, 3) := dk_183 1 52 (dk_at dksX1_atom_3 19 rfl rfl)
theorem dX1_atom_93 : decode cX1_atom 93 = .ok (.areturn, 1) := dk_176 (dk_at dksX1_atom_3 22 rfl rfl)
theorem dX1_atom_94 : decode cX1_atom 94 = .ok (.aload_n 1, 1) := dk_43 (dk_at dksX1_atom_3 23 rfl rfl)
theorem dX1_atom_95 : decode cX1_atom 95 = .ok (.ldc 186, 2) := dk_18 186 (dk_at dksX1_atom_4 0 rfl rfl)
theorem dX1_atom_97 : decode cX1_atom 97 = .ok (.invokevirtual 292, 3) := dk_182 1 36 (dk_at dksX1_atom_4 2 rfl rfl)
theorem dX1_atom_100 : decode cX1_atom 100 = .ok (.ifCond .eq 12, 3) := dk_153 0 12 (dk_at dksX1_atom_4 5 rfl rfl)
theorem dX1_atom_103 : decode cX1_atom 103 = .ok (.new 306, 3) := dk_187 1 50 (dk_at dksX1_atom_4 8 rfl rfl)
theorem dX1_atom_106 : decode cX1_atom 106 = .ok (.dup, 1) := dk_89 (dk_at dksX1_atom_4 11 rfl rfl)
theorem dX1_atom_107 : decode cX1_atom 107 = .ok (.iconst 0, 1) := dk_3 (dk_at dksX1_atom_4 12 rfl rfl)
theorem dX1_atom_108 : decode cX1_atom 108 = .ok (.invokespecial 308, 3) := dk_183 1 52 (dk_at dksX1_atom_4 13 rfl rfl)
theorem dX1_atom_111 : decode cX1_atom 111 = .ok (.areturn, 1) := dk_176 (dk_at dksX1_atom_4 16 rfl rfl)
theorem dX1_atom_112 : decode cX1_atom 112 = .ok (.aload_n 0, 1) := dk_42 (dk_at dksX1_atom_4 17 rfl rfl)
theorem dX1_atom_113 : decode cX1_atom 113 = .ok (.invokevirtual 311, 3) := dk_182 1 55 (dk_at dksX1_atom_4 18 rfl rfl)
theorem dX1_atom_116 : decode cX1_atom 116 = .ok (.astore_n 2, 1) := dk_77 (dk_at dksX1_atom_4 21 rfl rfl)
theorem dX1_atom_117 : decode cX1_atom 117 = .ok (.aload_n 1, 1) := dk_43 (dk_at dksX1_atom_4 22 rfl rfl)
theorem dX1_atom_118 : decode cX1_atom 118 = .ok (.bipush 60, 2) := dk_16 60 (dk_at dksX1_atom_5 0 rfl rfl)
theorem dX1_atom_120 : decode cX1_atom 120 = .ok (.invokevirtual 227, 3) := dk_182 0 227 (dk_at dksX1_atom_5 2 rfl rfl)
theorem dX1_atom_123 : decode cX1_atom 123 = .ok (.ifCond .eq 16, 3) := dk_153 0 16 (dk_at dksX1_atom_5 5 rfl rfl)
theorem dX1_atom_126 : decode cX1_atom 126 = .ok (.new 315, 3) := dk_187 1 59 (dk_at dksX1_atom_5 8 rfl rfl)
theorem dX1_atom_129 : decode cX1_atom 129 = .ok (.dup, 1) := dk_89 (dk_at dksX1_atom_5 11 rfl rfl)
theorem dX1_atom_130 : decode cX1_atom 130 = .ok (.aload_n 2, 1) := dk_44 (dk_at dksX1_atom_5 12 rfl rfl)
theorem dX1_atom_131 : decode cX1_atom 131 = .ok (.aload_n 0, 1) := dk_42 (dk_at dksX1_atom_5 13 rfl rfl)
theorem dX1_atom_132 : decode cX1_atom 132 = .ok (.invokevirtual 311, 3) := dk_182 1 55 (dk_at dksX1_atom_5 14 rfl rfl)
theorem dX1_atom_135 : decode cX1_atom 135 = .ok (.invokespecial 317, 3) := dk_183 1 61 (dk_at dksX1_atom_5 17 rfl rfl)
theorem dX1_atom_138 : decode cX1_atom 138 = .ok (.areturn, 1) := dk_176 (dk_at dksX1_atom_5 20 rfl rfl)
theorem dX1_atom_139 : decode cX1_atom 139 = .ok (.aload_n 1, 1) := dk_43 (dk_at dksX1_atom_5 21 rfl rfl)
theorem dX1_atom_140 : decode cX1_atom 140 = .ok (.bipush 62, 2) := dk_16 62 (dk_at dksX1_atom_5 22 rfl rfl)
theorem dX1_atom_142 : decode cX1_atom 142 = .ok (.invokevirtual 227, 3) := dk_182 0 227 (dk_at dksX1_atom_6 0 rfl rfl)
theorem dX1_atom_145 : decode cX1_atom 145 = .ok (.ifCond .ne 8, 3) := dk_154 0 8 (dk_at dksX1_atom_6 3 rfl rfl)
theorem dX1_atom_148 : decode cX1_atom 148 = .ok (.aload_n 1, 1) := dk_43 (dk_at dksX1_atom_6 6 rfl rfl)
theorem dX1_atom_149 : decode cX1_atom 149 = .ok (.invokevirtual 98, 3) := dk_182 0 98 (dk_at dksX1_atom_6 7 rfl rfl)
theorem dX1_atom_152 : decode cX1_atom 152 = .ok (.athrow, 1) := dk_191 (dk_at dksX1_atom_6 10 rfl rfl)
theorem dX1_atom_153 : decode cX1_atom 153 = .ok (.new 315, 3) := dk_187 1 59 (dk_at dksX1_atom_6 11 rfl rfl)
theorem dX1_atom_156 : decode cX1_atom 156 = .ok (.dup, 1) := dk_89 (dk_at dksX1_atom_6 14 rfl rfl)
theorem dX1_atom_157 : decode cX1_atom 157 = .ok (.aload_n 0, 1) := dk_42 (dk_at dksX1_atom_6 15 rfl rfl)
theorem dX1_atom_158 : decode cX1_atom 158 = .ok (.invokevirtual 311, 3) := dk_182 1 55 (dk_at dksX1_atom_6 16 rfl rfl)
theorem dX1_atom_161 : decode cX1_atom 161 = .ok (.aload_n 2, 1) := dk_44 (dk_at dksX1_atom_6 19 rfl rfl)
theorem dX1_atom_162 : decode cX1_atom 162 = .ok (.invokespecial 317, 3) := dk_183 1 61 (dk_at dksX1_atom_6 20 rfl rfl)
theorem dX1_atom_165 : decode cX1_atom 165 = .ok (.areturn, 1) := dk_176 (dk_at dksX1_atom_6 23 rfl rfl)
abbrev cX1_sum : ByteArray := prog_1_method_21_code
def yX1_sum : MethodName := ⟨RX1, "sum", "()LHungFaces$Sum;"⟩
def dkwX1_sum_1 : List UInt8 := [16, 43, 182, 0, 227, 154, 255, 235, 43, 176]
abbrev dktX1_sum_1 : List UInt8 := dkwX1_sum_1 ++ []
def dkwX1_sum_0 : List UInt8 := [187, 1, 12, 89, 183, 1, 14, 76, 43, 180, 1, 15, 42, 182, 1, 18, 182, 1, 22, 87, 42, 180, 0, 25]
abbrev dktX1_sum_0 : List UInt8 := dkwX1_sum_0 ++ dktX1_sum_1
theorem dksX1_sum_0 : cX1_sum.data.toList.drop 0 = dktX1_sum_0 := by decide +kernel
theorem dksX1_sum_1 : cX1_sum.data.toList.drop 24 = dktX1_sum_1 := dk_seg dksX1_sum_0 24 rfl rfl
theorem dX1_sum_0 : decode cX1_sum 0 = .ok (.new 268, 3) := dk_187 1 12 (dk_at dksX1_sum_0 0 rfl rfl)
theorem dX1_sum_3 : decode cX1_sum 3 = .ok (.dup, 1) := dk_89 (dk_at dksX1_sum_0 3 rfl rfl)
theorem dX1_sum_4 : decode cX1_sum 4 = .ok (.invokespecial 270, 3) := dk_183 1 14 (dk_at dksX1_sum_0 4 rfl rfl)
theorem dX1_sum_7 : decode cX1_sum 7 = .ok (.astore_n 1, 1) := dk_76 (dk_at dksX1_sum_0 7 rfl rfl)
theorem dX1_sum_8 : decode cX1_sum 8 = .ok (.aload_n 1, 1) := dk_43 (dk_at dksX1_sum_0 8 rfl rfl)
theorem dX1_sum_9 : decode cX1_sum 9 = .ok (.getfield 271, 3) := dk_180 1 15 (dk_at dksX1_sum_0 9 rfl rfl)
theorem dX1_sum_12 : decode cX1_sum 12 = .ok (.aload_n 0, 1) := dk_42 (dk_at dksX1_sum_0 12 rfl rfl)
theorem dX1_sum_13 : decode cX1_sum 13 = .ok (.invokevirtual 274, 3) := dk_182 1 18 (dk_at dksX1_sum_0 13 rfl rfl)
theorem dX1_sum_16 : decode cX1_sum 16 = .ok (.invokevirtual 278, 3) := dk_182 1 22 (dk_at dksX1_sum_0 16 rfl rfl)
theorem dX1_sum_19 : decode cX1_sum 19 = .ok (.pop, 1) := dk_87 (dk_at dksX1_sum_0 19 rfl rfl)
theorem dX1_sum_20 : decode cX1_sum 20 = .ok (.aload_n 0, 1) := dk_42 (dk_at dksX1_sum_0 20 rfl rfl)
theorem dX1_sum_21 : decode cX1_sum 21 = .ok (.getfield 25, 3) := dk_180 0 25 (dk_at dksX1_sum_0 21 rfl rfl)
theorem dX1_sum_24 : decode cX1_sum 24 = .ok (.bipush 43, 2) := dk_16 43 (dk_at dksX1_sum_1 0 rfl rfl)
theorem dX1_sum_26 : decode cX1_sum 26 = .ok (.invokevirtual 227, 3) := dk_182 0 227 (dk_at dksX1_sum_1 2 rfl rfl)
theorem dX1_sum_29 : decode cX1_sum 29 = .ok (.ifCond .ne (-21), 3) := dk_154 255 235 (dk_at dksX1_sum_1 5 rfl rfl)
theorem dX1_sum_32 : decode cX1_sum 32 = .ok (.aload_n 1, 1) := dk_43 (dk_at dksX1_sum_1 8 rfl rfl)
theorem dX1_sum_33 : decode cX1_sum 33 = .ok (.areturn, 1) := dk_176 (dk_at dksX1_sum_1 9 rfl rfl)
abbrev cX1_onePart : ByteArray := prog_1_method_20_code
def yX1_onePart : MethodName := ⟨RX1, "onePart", "()LHungFaces$Part;"⟩
def dkwX1_onePart_2 : List UInt8 := [180, 0, 25, 182, 0, 98, 191, 187, 1, 1, 89, 3, 43, 183, 1, 3, 176]
abbrev dktX1_onePart_2 : List UInt8 := dkwX1_onePart_2 ++ []
def dkwX1_onePart_1 : List UInt8 := [182, 0, 105, 1, 183, 1, 3, 176, 42, 180, 0, 25, 182, 0, 169, 184, 1, 6, 76, 43, 199, 0, 11, 42]
abbrev dktX1_onePart_1 : List UInt8 := dkwX1_onePart_1 ++ dktX1_onePart_2
def dkwX1_onePart_0 : List UInt8 := [42, 180, 0, 25, 182, 0, 153, 153, 0, 23, 187, 1, 1, 89, 42, 180, 0, 25, 3, 17, 3, 231]
abbrev dktX1_onePart_0 : List UInt8 := dkwX1_onePart_0 ++ dktX1_onePart_1
theorem dksX1_onePart_0 : cX1_onePart.data.toList.drop 0 = dktX1_onePart_0 := by decide +kernel
theorem dksX1_onePart_1 : cX1_onePart.data.toList.drop 22 = dktX1_onePart_1 := dk_seg dksX1_onePart_0 22 rfl rfl
theorem dksX1_onePart_2 : cX1_onePart.data.toList.drop 46 = dktX1_onePart_2 := dk_seg dksX1_onePart_1 24 rfl rfl
theorem dX1_onePart_0 : decode cX1_onePart 0 = .ok (.aload_n 0, 1) := dk_42 (dk_at dksX1_onePart_0 0 rfl rfl)
theorem dX1_onePart_1 : decode cX1_onePart 1 = .ok (.getfield 25, 3) := dk_180 0 25 (dk_at dksX1_onePart_0 1 rfl rfl)
theorem dX1_onePart_4 : decode cX1_onePart 4 = .ok (.invokevirtual 153, 3) := dk_182 0 153 (dk_at dksX1_onePart_0 4 rfl rfl)
theorem dX1_onePart_7 : decode cX1_onePart 7 = .ok (.ifCond .eq 23, 3) := dk_153 0 23 (dk_at dksX1_onePart_0 7 rfl rfl)
theorem dX1_onePart_10 : decode cX1_onePart 10 = .ok (.new 257, 3) := dk_187 1 1 (dk_at dksX1_onePart_0 10 rfl rfl)
theorem dX1_onePart_13 : decode cX1_onePart 13 = .ok (.dup, 1) := dk_89 (dk_at dksX1_onePart_0 13 rfl rfl)
theorem dX1_onePart_14 : decode cX1_onePart 14 = .ok (.aload_n 0, 1) := dk_42 (dk_at dksX1_onePart_0 14 rfl rfl)
theorem dX1_onePart_15 : decode cX1_onePart 15 = .ok (.getfield 25, 3) := dk_180 0 25 (dk_at dksX1_onePart_0 15 rfl rfl)
theorem dX1_onePart_18 : decode cX1_onePart 18 = .ok (.iconst 0, 1) := dk_3 (dk_at dksX1_onePart_0 18 rfl rfl)
theorem dX1_onePart_19 : decode cX1_onePart 19 = .ok (.sipush 999, 3) := dk_17 3 231 (dk_at dksX1_onePart_0 19 rfl rfl)
theorem dX1_onePart_22 : decode cX1_onePart 22 = .ok (.invokevirtual 105, 3) := dk_182 0 105 (dk_at dksX1_onePart_1 0 rfl rfl)
theorem dX1_onePart_25 : decode cX1_onePart 25 = .ok (.aconst_null, 1) := dk_1 (dk_at dksX1_onePart_1 3 rfl rfl)
theorem dX1_onePart_26 : decode cX1_onePart 26 = .ok (.invokespecial 259, 3) := dk_183 1 3 (dk_at dksX1_onePart_1 4 rfl rfl)
theorem dX1_onePart_29 : decode cX1_onePart 29 = .ok (.areturn, 1) := dk_176 (dk_at dksX1_onePart_1 7 rfl rfl)
theorem dX1_onePart_30 : decode cX1_onePart 30 = .ok (.aload_n 0, 1) := dk_42 (dk_at dksX1_onePart_1 8 rfl rfl)
theorem dX1_onePart_31 : decode cX1_onePart 31 = .ok (.getfield 25, 3) := dk_180 0 25 (dk_at dksX1_onePart_1 9 rfl rfl)
theorem dX1_onePart_34 : decode cX1_onePart 34 = .ok (.invokevirtual 169, 3) := dk_182 0 169 (dk_at dksX1_onePart_1 12 rfl rfl)
theorem dX1_onePart_37 : decode cX1_onePart 37 = .ok (.invokestatic 262, 3) := dk_184 1 6 (dk_at dksX1_onePart_1 15 rfl rfl)
theorem dX1_onePart_40 : decode cX1_onePart 40 = .ok (.astore_n 1, 1) := dk_76 (dk_at dksX1_onePart_1 18 rfl rfl)
theorem dX1_onePart_41 : decode cX1_onePart 41 = .ok (.aload_n 1, 1) := dk_43 (dk_at dksX1_onePart_1 19 rfl rfl)
theorem dX1_onePart_42 : decode cX1_onePart 42 = .ok (.ifnonnull 11, 3) := dk_199 0 11 (dk_at dksX1_onePart_1 20 rfl rfl)
theorem dX1_onePart_45 : decode cX1_onePart 45 = .ok (.aload_n 0, 1) := dk_42 (dk_at dksX1_onePart_1 23 rfl rfl)
theorem dX1_onePart_46 : decode cX1_onePart 46 = .ok (.getfield 25, 3) := dk_180 0 25 (dk_at dksX1_onePart_2 0 rfl rfl)
theorem dX1_onePart_49 : decode cX1_onePart 49 = .ok (.invokevirtual 98, 3) := dk_182 0 98 (dk_at dksX1_onePart_2 3 rfl rfl)
theorem dX1_onePart_52 : decode cX1_onePart 52 = .ok (.athrow, 1) := dk_191 (dk_at dksX1_onePart_2 6 rfl rfl)
theorem dX1_onePart_53 : decode cX1_onePart 53 = .ok (.new 257, 3) := dk_187 1 1 (dk_at dksX1_onePart_2 7 rfl rfl)
theorem dX1_onePart_56 : decode cX1_onePart 56 = .ok (.dup, 1) := dk_89 (dk_at dksX1_onePart_2 10 rfl rfl)
theorem dX1_onePart_57 : decode cX1_onePart 57 = .ok (.iconst 0, 1) := dk_3 (dk_at dksX1_onePart_2 11 rfl rfl)
theorem dX1_onePart_58 : decode cX1_onePart 58 = .ok (.aload_n 1, 1) := dk_43 (dk_at dksX1_onePart_2 12 rfl rfl)
theorem dX1_onePart_59 : decode cX1_onePart 59 = .ok (.invokespecial 259, 3) := dk_183 1 3 (dk_at dksX1_onePart_2 13 rfl rfl)
theorem dX1_onePart_62 : decode cX1_onePart 62 = .ok (.areturn, 1) := dk_176 (dk_at dksX1_onePart_2 16 rfl rfl)
abbrev cX1_person : ByteArray := prog_1_method_40_code
def yX1_person : MethodName := ⟨RX1, "person", "(II)I"⟩
def dkwX1_person_3 : List UInt8 := [180, 0, 126, 27, 46, 172, 45, 180, 0, 129, 27, 46, 172, 42, 27, 182, 1, 176, 172]
abbrev dktX1_person_3 : List UInt8 := dkwX1_person_3 ++ []
def dkwX1_person_2 : List UInt8 := [45, 180, 0, 117, 27, 46, 172, 45, 180, 0, 120, 27, 46, 172, 45, 180, 0, 123, 27, 46, 172, 45]
abbrev dktX1_person_2 : List UInt8 := dkwX1_person_2 ++ dktX1_person_3
def dkwX1_person_1 : List UInt8 := [170, 0, 0, 0, 0, 0, 0, 71, 0, 0, 0, 0, 0, 0, 0, 4, 0, 0, 0, 36, 0, 0, 0, 43, 0, 0, 0, 50, 0, 0, 0, 57, 0, 0, 0, 64]
abbrev dktX1_person_1 : List UInt8 := dkwX1_person_1 ++ dktX1_person_2
def dkwX1_person_0 : List UInt8 := [42, 27, 182, 1, 158, 28, 8, 184, 1, 173, 42, 180, 0, 10, 78, 28]
abbrev dktX1_person_0 : List UInt8 := dkwX1_person_0 ++ dktX1_person_1
theorem dksX1_person_0 : cX1_person.data.toList.drop 0 = dktX1_person_0 := by decide +kernel
theorem dksX1_person_1 : cX1_person.data.toList.drop 16 = dktX1_person_1 := dk_seg dksX1_person_0 16 rfl rfl
theorem dksX1_person_2 : cX1_person.data.toList.drop 52 = dktX1_person_2 := dk_seg dksX1_person_1 36 rfl rfl
theorem dksX1_person_3 : cX1_person.data.toList.drop 74 = dktX1_person_3 := dk_seg dksX1_person_2 22 rfl rfl
theorem dX1_person_0 : decode cX1_person 0 = .ok (.aload_n 0, 1) := dk_42 (dk_at dksX1_person_0 0 rfl rfl)
theorem dX1_person_1 : decode cX1_person 1 = .ok (.iload_n 1, 1) := dk_27 (dk_at dksX1_person_0 1 rfl rfl)
theorem dX1_person_2 : decode cX1_person 2 = .ok (.invokevirtual 414, 3) := dk_182 1 158 (dk_at dksX1_person_0 2 rfl rfl)
theorem dX1_person_5 : decode cX1_person 5 = .ok (.iload_n 2, 1) := dk_28 (dk_at dksX1_person_0 5 rfl rfl)
theorem dX1_person_6 : decode cX1_person 6 = .ok (.iconst 5, 1) := dk_8 (dk_at dksX1_person_0 6 rfl rfl)
theorem dX1_person_7 : decode cX1_person 7 = .ok (.invokestatic 429, 3) := dk_184 1 173 (dk_at dksX1_person_0 7 rfl rfl)
theorem dX1_person_10 : decode cX1_person 10 = .ok (.aload_n 0, 1) := dk_42 (dk_at dksX1_person_0 10 rfl rfl)
theorem dX1_person_11 : decode cX1_person 11 = .ok (.getfield 10, 3) := dk_180 0 10 (dk_at dksX1_person_0 11 rfl rfl)
theorem dX1_person_14 : decode cX1_person 14 = .ok (.astore_n 3, 1) := dk_78 (dk_at dksX1_person_0 14 rfl rfl)
theorem dX1_person_15 : decode cX1_person 15 = .ok (.iload_n 2, 1) := dk_28 (dk_at dksX1_person_0 15 rfl rfl)
theorem dX1_person_16 : decode cX1_person 16 = .ok (.tableswitch 71 0 4 #[36, 43, 50, 57, 64], 36) := by decide +kernel
theorem dX1_person_52 : decode cX1_person 52 = .ok (.aload_n 3, 1) := dk_45 (dk_at dksX1_person_2 0 rfl rfl)
theorem dX1_person_53 : decode cX1_person 53 = .ok (.getfield 117, 3) := dk_180 0 117 (dk_at dksX1_person_2 1 rfl rfl)
theorem dX1_person_56 : decode cX1_person 56 = .ok (.iload_n 1, 1) := dk_27 (dk_at dksX1_person_2 4 rfl rfl)
theorem dX1_person_57 : decode cX1_person 57 = .ok (.iaload, 1) := dk_46 (dk_at dksX1_person_2 5 rfl rfl)
theorem dX1_person_58 : decode cX1_person 58 = .ok (.ireturn, 1) := dk_172 (dk_at dksX1_person_2 6 rfl rfl)
theorem dX1_person_59 : decode cX1_person 59 = .ok (.aload_n 3, 1) := dk_45 (dk_at dksX1_person_2 7 rfl rfl)
theorem dX1_person_60 : decode cX1_person 60 = .ok (.getfield 120, 3) := dk_180 0 120 (dk_at dksX1_person_2 8 rfl rfl)
theorem dX1_person_63 : decode cX1_person 63 = .ok (.iload_n 1, 1) := dk_27 (dk_at dksX1_person_2 11 rfl rfl)
theorem dX1_person_64 : decode cX1_person 64 = .ok (.iaload, 1) := dk_46 (dk_at dksX1_person_2 12 rfl rfl)
theorem dX1_person_65 : decode cX1_person 65 = .ok (.ireturn, 1) := dk_172 (dk_at dksX1_person_2 13 rfl rfl)
theorem dX1_person_66 : decode cX1_person 66 = .ok (.aload_n 3, 1) := dk_45 (dk_at dksX1_person_2 14 rfl rfl)
theorem dX1_person_67 : decode cX1_person 67 = .ok (.getfield 123, 3) := dk_180 0 123 (dk_at dksX1_person_2 15 rfl rfl)
theorem dX1_person_70 : decode cX1_person 70 = .ok (.iload_n 1, 1) := dk_27 (dk_at dksX1_person_2 18 rfl rfl)
theorem dX1_person_71 : decode cX1_person 71 = .ok (.iaload, 1) := dk_46 (dk_at dksX1_person_2 19 rfl rfl)
theorem dX1_person_72 : decode cX1_person 72 = .ok (.ireturn, 1) := dk_172 (dk_at dksX1_person_2 20 rfl rfl)
theorem dX1_person_73 : decode cX1_person 73 = .ok (.aload_n 3, 1) := dk_45 (dk_at dksX1_person_2 21 rfl rfl)
theorem dX1_person_74 : decode cX1_person 74 = .ok (.getfield 126, 3) := dk_180 0 126 (dk_at dksX1_person_3 0 rfl rfl)
theorem dX1_person_77 : decode cX1_person 77 = .ok (.iload_n 1, 1) := dk_27 (dk_at dksX1_person_3 3 rfl rfl)
theorem dX1_person_78 : decode cX1_person 78 = .ok (.iaload, 1) := dk_46 (dk_at dksX1_person_3 4 rfl rfl)
theorem dX1_person_79 : decode cX1_person 79 = .ok (.ireturn, 1) := dk_172 (dk_at dksX1_person_3 5 rfl rfl)
theorem dX1_person_80 : decode cX1_person 80 = .ok (.aload_n 3, 1) := dk_45 (dk_at dksX1_person_3 6 rfl rfl)
theorem dX1_person_81 : decode cX1_person 81 = .ok (.getfield 129, 3) := dk_180 0 129 (dk_at dksX1_person_3 7 rfl rfl)
theorem dX1_person_84 : decode cX1_person 84 = .ok (.iload_n 1, 1) := dk_27 (dk_at dksX1_person_3 10 rfl rfl)
theorem dX1_person_85 : decode cX1_person 85 = .ok (.iaload, 1) := dk_46 (dk_at dksX1_person_3 11 rfl rfl)
theorem dX1_person_86 : decode cX1_person 86 = .ok (.ireturn, 1) := dk_172 (dk_at dksX1_person_3 12 rfl rfl)
theorem dX1_person_87 : decode cX1_person 87 = .ok (.aload_n 0, 1) := dk_42 (dk_at dksX1_person_3 13 rfl rfl)
theorem dX1_person_88 : decode cX1_person 88 = .ok (.iload_n 1, 1) := dk_27 (dk_at dksX1_person_3 14 rfl rfl)
theorem dX1_person_89 : decode cX1_person 89 = .ok (.invokevirtual 432, 3) := dk_182 1 176 (dk_at dksX1_person_3 15 rfl rfl)
theorem dX1_person_92 : decode cX1_person 92 = .ok (.ireturn, 1) := dk_172 (dk_at dksX1_person_3 18 rfl rfl)
abbrev cX1_personAt : ByteArray := prog_1_method_33_code
def yX1_personAt : MethodName := ⟨RX1, "personAt", "(I)V"⟩
def dkwX1_personAt_0 : List UInt8 := [27, 42, 180, 0, 10, 180, 0, 102, 184, 1, 155, 177]
abbrev dktX1_personAt_0 : List UInt8 := dkwX1_personAt_0 ++ []
theorem dksX1_personAt_0 : cX1_personAt.data.toList.drop 0 = dktX1_personAt_0 := by decide +kernel
theorem dX1_personAt_0 : decode cX1_personAt 0 = .ok (.iload_n 1, 1) := dk_27 (dk_at dksX1_personAt_0 0 rfl rfl)
theorem dX1_personAt_1 : decode cX1_personAt 1 = .ok (.aload_n 0, 1) := dk_42 (dk_at dksX1_personAt_0 1 rfl rfl)
theorem dX1_personAt_2 : decode cX1_personAt 2 = .ok (.getfield 10, 3) := dk_180 0 10 (dk_at dksX1_personAt_0 2 rfl rfl)
theorem dX1_personAt_5 : decode cX1_personAt 5 = .ok (.getfield 102, 3) := dk_180 0 102 (dk_at dksX1_personAt_0 5 rfl rfl)
theorem dX1_personAt_8 : decode cX1_personAt 8 = .ok (.invokestatic 411, 3) := dk_184 1 155 (dk_at dksX1_personAt_0 8 rfl rfl)
theorem dX1_personAt_11 : decode cX1_personAt 11 = .ok (.return_, 1) := dk_177 (dk_at dksX1_personAt_0 11 rfl rfl)
abbrev cX1_there : ByteArray := prog_1_method_29_code
def yX1_there : MethodName := ⟨RX1, "there", "(II)V"⟩
def dkwX1_there_0 : List UInt8 := [26, 3, 27, 4, 100, 184, 0, 91, 154, 0, 11, 187, 1, 146, 89, 183, 1, 148, 191, 177]
abbrev dktX1_there_0 : List UInt8 := dkwX1_there_0 ++ []
theorem dksX1_there_0 : cX1_there.data.toList.drop 0 = dktX1_there_0 := by decide +kernel
theorem dX1_there_0 : decode cX1_there 0 = .ok (.iload_n 0, 1) := dk_26 (dk_at dksX1_there_0 0 rfl rfl)
theorem dX1_there_1 : decode cX1_there 1 = .ok (.iconst 0, 1) := dk_3 (dk_at dksX1_there_0 1 rfl rfl)
theorem dX1_there_2 : decode cX1_there 2 = .ok (.iload_n 1, 1) := dk_27 (dk_at dksX1_there_0 2 rfl rfl)
theorem dX1_there_3 : decode cX1_there 3 = .ok (.iconst 1, 1) := dk_4 (dk_at dksX1_there_0 3 rfl rfl)
theorem dX1_there_4 : decode cX1_there 4 = .ok (.isub, 1) := dk_100 (dk_at dksX1_there_0 4 rfl rfl)
theorem dX1_there_5 : decode cX1_there 5 = .ok (.invokestatic 91, 3) := dk_184 0 91 (dk_at dksX1_there_0 5 rfl rfl)
theorem dX1_there_8 : decode cX1_there 8 = .ok (.ifCond .ne 11, 3) := dk_154 0 11 (dk_at dksX1_there_0 8 rfl rfl)
theorem dX1_there_11 : decode cX1_there 11 = .ok (.new 402, 3) := dk_187 1 146 (dk_at dksX1_there_0 11 rfl rfl)
theorem dX1_there_14 : decode cX1_there 14 = .ok (.dup, 1) := dk_89 (dk_at dksX1_there_0 14 rfl rfl)
theorem dX1_there_15 : decode cX1_there 15 = .ok (.invokespecial 404, 3) := dk_183 1 148 (dk_at dksX1_there_0 15 rfl rfl)
theorem dX1_there_18 : decode cX1_there 18 = .ok (.athrow, 1) := dk_191 (dk_at dksX1_there_0 18 rfl rfl)
theorem dX1_there_19 : decode cX1_there 19 = .ok (.return_, 1) := dk_177 (dk_at dksX1_there_0 19 rfl rfl)
abbrev cX1_question : ByteArray := prog_1_method_32_code
def yX1_question : MethodName := ⟨RX1, "question", "(II)V"⟩
def dkwX1_question_0 : List UInt8 := [26, 3, 27, 184, 0, 91, 154, 0, 11, 187, 1, 152, 89, 183, 1, 154, 191, 177]
abbrev dktX1_question_0 : List UInt8 := dkwX1_question_0 ++ []
theorem dksX1_question_0 : cX1_question.data.toList.drop 0 = dktX1_question_0 := by decide +kernel
theorem dX1_question_0 : decode cX1_question 0 = .ok (.iload_n 0, 1) := dk_26 (dk_at dksX1_question_0 0 rfl rfl)
theorem dX1_question_1 : decode cX1_question 1 = .ok (.iconst 0, 1) := dk_3 (dk_at dksX1_question_0 1 rfl rfl)
theorem dX1_question_2 : decode cX1_question 2 = .ok (.iload_n 1, 1) := dk_27 (dk_at dksX1_question_0 2 rfl rfl)
theorem dX1_question_3 : decode cX1_question 3 = .ok (.invokestatic 91, 3) := dk_184 0 91 (dk_at dksX1_question_0 3 rfl rfl)
theorem dX1_question_6 : decode cX1_question 6 = .ok (.ifCond .ne 11, 3) := dk_154 0 11 (dk_at dksX1_question_0 6 rfl rfl)
theorem dX1_question_9 : decode cX1_question 9 = .ok (.new 408, 3) := dk_187 1 152 (dk_at dksX1_question_0 9 rfl rfl)
theorem dX1_question_12 : decode cX1_question 12 = .ok (.dup, 1) := dk_89 (dk_at dksX1_question_0 12 rfl rfl)
theorem dX1_question_13 : decode cX1_question 13 = .ok (.invokespecial 410, 3) := dk_183 1 154 (dk_at dksX1_question_0 13 rfl rfl)
theorem dX1_question_16 : decode cX1_question 16 = .ok (.athrow, 1) := dk_191 (dk_at dksX1_question_0 16 rfl rfl)
theorem dX1_question_17 : decode cX1_question 17 = .ok (.return_, 1) := dk_177 (dk_at dksX1_question_0 17 rfl rfl)
abbrev cX1_face : ByteArray := prog_1_method_41_code
def yX1_face : MethodName := ⟨RX1, "face", "(II)I"⟩
def dkwX1_face_3 : List UInt8 := [172]
abbrev dktX1_face_3 : List UInt8 := dkwX1_face_3 ++ []
def dkwX1_face_2 : List UInt8 := [45, 180, 0, 109, 27, 46, 172, 45, 27, 182, 1, 170, 172, 45, 27, 182, 1, 179, 172, 42, 27, 182, 1, 182]
abbrev dktX1_face_2 : List UInt8 := dkwX1_face_2 ++ dktX1_face_3
def dkwX1_face_1 : List UInt8 := [170, 0, 0, 0, 0, 0, 0, 47, 0, 0, 0, 0, 0, 0, 0, 2, 0, 0, 0, 28, 0, 0, 0, 35, 0, 0, 0, 41]
abbrev dktX1_face_1 : List UInt8 := dkwX1_face_1 ++ dktX1_face_2
def dkwX1_face_0 : List UInt8 := [42, 27, 182, 1, 158, 28, 6, 184, 1, 173, 42, 180, 0, 10, 78, 28]
abbrev dktX1_face_0 : List UInt8 := dkwX1_face_0 ++ dktX1_face_1
theorem dksX1_face_0 : cX1_face.data.toList.drop 0 = dktX1_face_0 := by decide +kernel
theorem dksX1_face_1 : cX1_face.data.toList.drop 16 = dktX1_face_1 := dk_seg dksX1_face_0 16 rfl rfl
theorem dksX1_face_2 : cX1_face.data.toList.drop 44 = dktX1_face_2 := dk_seg dksX1_face_1 28 rfl rfl
theorem dksX1_face_3 : cX1_face.data.toList.drop 68 = dktX1_face_3 := dk_seg dksX1_face_2 24 rfl rfl
theorem dX1_face_0 : decode cX1_face 0 = .ok (.aload_n 0, 1) := dk_42 (dk_at dksX1_face_0 0 rfl rfl)
theorem dX1_face_1 : decode cX1_face 1 = .ok (.iload_n 1, 1) := dk_27 (dk_at dksX1_face_0 1 rfl rfl)
theorem dX1_face_2 : decode cX1_face 2 = .ok (.invokevirtual 414, 3) := dk_182 1 158 (dk_at dksX1_face_0 2 rfl rfl)
theorem dX1_face_5 : decode cX1_face 5 = .ok (.iload_n 2, 1) := dk_28 (dk_at dksX1_face_0 5 rfl rfl)
theorem dX1_face_6 : decode cX1_face 6 = .ok (.iconst 3, 1) := dk_6 (dk_at dksX1_face_0 6 rfl rfl)
theorem dX1_face_7 : decode cX1_face 7 = .ok (.invokestatic 429, 3) := dk_184 1 173 (dk_at dksX1_face_0 7 rfl rfl)
theorem dX1_face_10 : decode cX1_face 10 = .ok (.aload_n 0, 1) := dk_42 (dk_at dksX1_face_0 10 rfl rfl)
theorem dX1_face_11 : decode cX1_face 11 = .ok (.getfield 10, 3) := dk_180 0 10 (dk_at dksX1_face_0 11 rfl rfl)
theorem dX1_face_14 : decode cX1_face 14 = .ok (.astore_n 3, 1) := dk_78 (dk_at dksX1_face_0 14 rfl rfl)
theorem dX1_face_15 : decode cX1_face 15 = .ok (.iload_n 2, 1) := dk_28 (dk_at dksX1_face_0 15 rfl rfl)
theorem dX1_face_16 : decode cX1_face 16 = .ok (.tableswitch 47 0 2 #[28, 35, 41], 28) := by decide +kernel
theorem dX1_face_44 : decode cX1_face 44 = .ok (.aload_n 3, 1) := dk_45 (dk_at dksX1_face_2 0 rfl rfl)
theorem dX1_face_45 : decode cX1_face 45 = .ok (.getfield 109, 3) := dk_180 0 109 (dk_at dksX1_face_2 1 rfl rfl)
theorem dX1_face_48 : decode cX1_face 48 = .ok (.iload_n 1, 1) := dk_27 (dk_at dksX1_face_2 4 rfl rfl)
theorem dX1_face_49 : decode cX1_face 49 = .ok (.iaload, 1) := dk_46 (dk_at dksX1_face_2 5 rfl rfl)
theorem dX1_face_50 : decode cX1_face 50 = .ok (.ireturn, 1) := dk_172 (dk_at dksX1_face_2 6 rfl rfl)
theorem dX1_face_51 : decode cX1_face 51 = .ok (.aload_n 3, 1) := dk_45 (dk_at dksX1_face_2 7 rfl rfl)
theorem dX1_face_52 : decode cX1_face 52 = .ok (.iload_n 1, 1) := dk_27 (dk_at dksX1_face_2 8 rfl rfl)
theorem dX1_face_53 : decode cX1_face 53 = .ok (.invokevirtual 426, 3) := dk_182 1 170 (dk_at dksX1_face_2 9 rfl rfl)
theorem dX1_face_56 : decode cX1_face 56 = .ok (.ireturn, 1) := dk_172 (dk_at dksX1_face_2 12 rfl rfl)
theorem dX1_face_57 : decode cX1_face 57 = .ok (.aload_n 3, 1) := dk_45 (dk_at dksX1_face_2 13 rfl rfl)
theorem dX1_face_58 : decode cX1_face 58 = .ok (.iload_n 1, 1) := dk_27 (dk_at dksX1_face_2 14 rfl rfl)
theorem dX1_face_59 : decode cX1_face 59 = .ok (.invokevirtual 435, 3) := dk_182 1 179 (dk_at dksX1_face_2 15 rfl rfl)
theorem dX1_face_62 : decode cX1_face 62 = .ok (.ireturn, 1) := dk_172 (dk_at dksX1_face_2 18 rfl rfl)
theorem dX1_face_63 : decode cX1_face 63 = .ok (.aload_n 0, 1) := dk_42 (dk_at dksX1_face_2 19 rfl rfl)
theorem dX1_face_64 : decode cX1_face 64 = .ok (.iload_n 1, 1) := dk_27 (dk_at dksX1_face_2 20 rfl rfl)
theorem dX1_face_65 : decode cX1_face 65 = .ok (.invokevirtual 438, 3) := dk_182 1 182 (dk_at dksX1_face_2 21 rfl rfl)
theorem dX1_face_68 : decode cX1_face 68 = .ok (.ireturn, 1) := dk_172 (dk_at dksX1_face_3 0 rfl rfl)
abbrev cX1_alike : ByteArray := prog_1_method_39_code
def yX1_alike : MethodName := ⟨RX1, "alike", "(I)I"⟩
def dkwX1_alike_2 : List UInt8 := [167, 0, 4, 3, 128, 61, 132, 3, 1, 167, 255, 206, 28, 172]
abbrev dktX1_alike_2 : List UInt8 := dkwX1_alike_2 ++ []
def dkwX1_alike_1 : List UInt8 := [180, 0, 10, 180, 0, 109, 29, 46, 42, 180, 0, 10, 180, 0, 109, 27, 46, 160, 0, 9, 4, 29, 120]
abbrev dktX1_alike_1 : List UInt8 := dkwX1_alike_1 ++ dktX1_alike_2
def dkwX1_alike_0 : List UInt8 := [3, 61, 3, 62, 29, 42, 180, 0, 10, 180, 0, 102, 162, 0, 45, 28, 29, 27, 159, 0, 30, 42]
abbrev dktX1_alike_0 : List UInt8 := dkwX1_alike_0 ++ dktX1_alike_1
theorem dksX1_alike_0 : cX1_alike.data.toList.drop 0 = dktX1_alike_0 := by decide +kernel
theorem dksX1_alike_1 : cX1_alike.data.toList.drop 22 = dktX1_alike_1 := dk_seg dksX1_alike_0 22 rfl rfl
theorem dksX1_alike_2 : cX1_alike.data.toList.drop 45 = dktX1_alike_2 := dk_seg dksX1_alike_1 23 rfl rfl
theorem dX1_alike_0 : decode cX1_alike 0 = .ok (.iconst 0, 1) := dk_3 (dk_at dksX1_alike_0 0 rfl rfl)
theorem dX1_alike_1 : decode cX1_alike 1 = .ok (.istore_n 2, 1) := dk_61 (dk_at dksX1_alike_0 1 rfl rfl)
theorem dX1_alike_2 : decode cX1_alike 2 = .ok (.iconst 0, 1) := dk_3 (dk_at dksX1_alike_0 2 rfl rfl)
theorem dX1_alike_3 : decode cX1_alike 3 = .ok (.istore_n 3, 1) := dk_62 (dk_at dksX1_alike_0 3 rfl rfl)
theorem dX1_alike_4 : decode cX1_alike 4 = .ok (.iload_n 3, 1) := dk_29 (dk_at dksX1_alike_0 4 rfl rfl)
theorem dX1_alike_5 : decode cX1_alike 5 = .ok (.aload_n 0, 1) := dk_42 (dk_at dksX1_alike_0 5 rfl rfl)
theorem dX1_alike_6 : decode cX1_alike 6 = .ok (.getfield 10, 3) := dk_180 0 10 (dk_at dksX1_alike_0 6 rfl rfl)
theorem dX1_alike_9 : decode cX1_alike 9 = .ok (.getfield 102, 3) := dk_180 0 102 (dk_at dksX1_alike_0 9 rfl rfl)
theorem dX1_alike_12 : decode cX1_alike 12 = .ok (.if_icmp .ge 45, 3) := dk_162 0 45 (dk_at dksX1_alike_0 12 rfl rfl)
theorem dX1_alike_15 : decode cX1_alike 15 = .ok (.iload_n 2, 1) := dk_28 (dk_at dksX1_alike_0 15 rfl rfl)
theorem dX1_alike_16 : decode cX1_alike 16 = .ok (.iload_n 3, 1) := dk_29 (dk_at dksX1_alike_0 16 rfl rfl)
theorem dX1_alike_17 : decode cX1_alike 17 = .ok (.iload_n 1, 1) := dk_27 (dk_at dksX1_alike_0 17 rfl rfl)
theorem dX1_alike_18 : decode cX1_alike 18 = .ok (.if_icmp .eq 30, 3) := dk_159 0 30 (dk_at dksX1_alike_0 18 rfl rfl)
theorem dX1_alike_21 : decode cX1_alike 21 = .ok (.aload_n 0, 1) := dk_42 (dk_at dksX1_alike_0 21 rfl rfl)
theorem dX1_alike_22 : decode cX1_alike 22 = .ok (.getfield 10, 3) := dk_180 0 10 (dk_at dksX1_alike_1 0 rfl rfl)
theorem dX1_alike_25 : decode cX1_alike 25 = .ok (.getfield 109, 3) := dk_180 0 109 (dk_at dksX1_alike_1 3 rfl rfl)
theorem dX1_alike_28 : decode cX1_alike 28 = .ok (.iload_n 3, 1) := dk_29 (dk_at dksX1_alike_1 6 rfl rfl)
theorem dX1_alike_29 : decode cX1_alike 29 = .ok (.iaload, 1) := dk_46 (dk_at dksX1_alike_1 7 rfl rfl)
theorem dX1_alike_30 : decode cX1_alike 30 = .ok (.aload_n 0, 1) := dk_42 (dk_at dksX1_alike_1 8 rfl rfl)
theorem dX1_alike_31 : decode cX1_alike 31 = .ok (.getfield 10, 3) := dk_180 0 10 (dk_at dksX1_alike_1 9 rfl rfl)
theorem dX1_alike_34 : decode cX1_alike 34 = .ok (.getfield 109, 3) := dk_180 0 109 (dk_at dksX1_alike_1 12 rfl rfl)
theorem dX1_alike_37 : decode cX1_alike 37 = .ok (.iload_n 1, 1) := dk_27 (dk_at dksX1_alike_1 15 rfl rfl)
theorem dX1_alike_38 : decode cX1_alike 38 = .ok (.iaload, 1) := dk_46 (dk_at dksX1_alike_1 16 rfl rfl)
theorem dX1_alike_39 : decode cX1_alike 39 = .ok (.if_icmp .ne 9, 3) := dk_160 0 9 (dk_at dksX1_alike_1 17 rfl rfl)
theorem dX1_alike_42 : decode cX1_alike 42 = .ok (.iconst 1, 1) := dk_4 (dk_at dksX1_alike_1 20 rfl rfl)
theorem dX1_alike_43 : decode cX1_alike 43 = .ok (.iload_n 3, 1) := dk_29 (dk_at dksX1_alike_1 21 rfl rfl)
theorem dX1_alike_44 : decode cX1_alike 44 = .ok (.ishl, 1) := dk_120 (dk_at dksX1_alike_1 22 rfl rfl)
theorem dX1_alike_45 : decode cX1_alike 45 = .ok (.goto 4, 3) := dk_167 0 4 (dk_at dksX1_alike_2 0 rfl rfl)
theorem dX1_alike_48 : decode cX1_alike 48 = .ok (.iconst 0, 1) := dk_3 (dk_at dksX1_alike_2 3 rfl rfl)
theorem dX1_alike_49 : decode cX1_alike 49 = .ok (.ior, 1) := dk_128 (dk_at dksX1_alike_2 4 rfl rfl)
theorem dX1_alike_50 : decode cX1_alike 50 = .ok (.istore_n 2, 1) := dk_61 (dk_at dksX1_alike_2 5 rfl rfl)
theorem dX1_alike_51 : decode cX1_alike 51 = .ok (.iinc 3 1, 3) := dk_132 3 1 (dk_at dksX1_alike_2 6 rfl rfl)
theorem dX1_alike_54 : decode cX1_alike 54 = .ok (.goto (-50), 3) := dk_167 255 206 (dk_at dksX1_alike_2 9 rfl rfl)
theorem dX1_alike_57 : decode cX1_alike 57 = .ok (.iload_n 2, 1) := dk_28 (dk_at dksX1_alike_2 12 rfl rfl)
theorem dX1_alike_58 : decode cX1_alike 58 = .ok (.ireturn, 1) := dk_172 (dk_at dksX1_alike_2 13 rfl rfl)
abbrev cX1_hook : ByteArray := prog_1_method_42_code
def yX1_hook : MethodName := ⟨RX1, "hook", "(I)I"⟩
def dkwX1_hook_0 : List UInt8 := [42, 27, 182, 1, 185, 42, 180, 0, 10, 180, 0, 160, 27, 46, 172]
abbrev dktX1_hook_0 : List UInt8 := dkwX1_hook_0 ++ []
theorem dksX1_hook_0 : cX1_hook.data.toList.drop 0 = dktX1_hook_0 := by decide +kernel
theorem dX1_hook_0 : decode cX1_hook 0 = .ok (.aload_n 0, 1) := dk_42 (dk_at dksX1_hook_0 0 rfl rfl)
theorem dX1_hook_1 : decode cX1_hook 1 = .ok (.iload_n 1, 1) := dk_27 (dk_at dksX1_hook_0 1 rfl rfl)
theorem dX1_hook_2 : decode cX1_hook 2 = .ok (.invokevirtual 441, 3) := dk_182 1 185 (dk_at dksX1_hook_0 2 rfl rfl)
theorem dX1_hook_5 : decode cX1_hook 5 = .ok (.aload_n 0, 1) := dk_42 (dk_at dksX1_hook_0 5 rfl rfl)
theorem dX1_hook_6 : decode cX1_hook 6 = .ok (.getfield 10, 3) := dk_180 0 10 (dk_at dksX1_hook_0 6 rfl rfl)
theorem dX1_hook_9 : decode cX1_hook 9 = .ok (.getfield 160, 3) := dk_180 0 160 (dk_at dksX1_hook_0 9 rfl rfl)
theorem dX1_hook_12 : decode cX1_hook 12 = .ok (.iload_n 1, 1) := dk_27 (dk_at dksX1_hook_0 12 rfl rfl)
theorem dX1_hook_13 : decode cX1_hook 13 = .ok (.iaload, 1) := dk_46 (dk_at dksX1_hook_0 13 rfl rfl)
theorem dX1_hook_14 : decode cX1_hook 14 = .ok (.ireturn, 1) := dk_172 (dk_at dksX1_hook_0 14 rfl rfl)
abbrev cX1_hookAt : ByteArray := prog_1_method_34_code
def yX1_hookAt : MethodName := ⟨RX1, "hookAt", "(I)V"⟩
def dkwX1_hookAt_0 : List UInt8 := [27, 42, 180, 0, 10, 180, 0, 166, 184, 1, 155, 177]
abbrev dktX1_hookAt_0 : List UInt8 := dkwX1_hookAt_0 ++ []
theorem dksX1_hookAt_0 : cX1_hookAt.data.toList.drop 0 = dktX1_hookAt_0 := by decide +kernel
theorem dX1_hookAt_0 : decode cX1_hookAt 0 = .ok (.iload_n 1, 1) := dk_27 (dk_at dksX1_hookAt_0 0 rfl rfl)
theorem dX1_hookAt_1 : decode cX1_hookAt 1 = .ok (.aload_n 0, 1) := dk_42 (dk_at dksX1_hookAt_0 1 rfl rfl)
theorem dX1_hookAt_2 : decode cX1_hookAt 2 = .ok (.getfield 10, 3) := dk_180 0 10 (dk_at dksX1_hookAt_0 2 rfl rfl)
theorem dX1_hookAt_5 : decode cX1_hookAt 5 = .ok (.getfield 166, 3) := dk_180 0 166 (dk_at dksX1_hookAt_0 5 rfl rfl)
theorem dX1_hookAt_8 : decode cX1_hookAt 8 = .ok (.invokestatic 411, 3) := dk_184 1 155 (dk_at dksX1_hookAt_0 8 rfl rfl)
theorem dX1_hookAt_11 : decode cX1_hookAt 11 = .ok (.return_, 1) := dk_177 (dk_at dksX1_hookAt_0 11 rfl rfl)
abbrev cX1_wish : ByteArray := prog_1_method_43_code
def yX1_wish : MethodName := ⟨RX1, "wish", "(II)I"⟩
def dkwX1_wish_1 : List UInt8 := [180, 0, 10, 180, 0, 150, 16, 10, 27, 104, 28, 96, 46, 167, 0, 4, 2, 172]
abbrev dktX1_wish_1 : List UInt8 := dkwX1_wish_1 ++ []
def dkwX1_wish_0 : List UInt8 := [42, 27, 182, 1, 158, 28, 3, 42, 180, 0, 10, 180, 0, 102, 4, 100, 184, 0, 91, 153, 0, 20, 42]
abbrev dktX1_wish_0 : List UInt8 := dkwX1_wish_0 ++ dktX1_wish_1
theorem dksX1_wish_0 : cX1_wish.data.toList.drop 0 = dktX1_wish_0 := by decide +kernel
theorem dksX1_wish_1 : cX1_wish.data.toList.drop 23 = dktX1_wish_1 := dk_seg dksX1_wish_0 23 rfl rfl
theorem dX1_wish_0 : decode cX1_wish 0 = .ok (.aload_n 0, 1) := dk_42 (dk_at dksX1_wish_0 0 rfl rfl)
theorem dX1_wish_1 : decode cX1_wish 1 = .ok (.iload_n 1, 1) := dk_27 (dk_at dksX1_wish_0 1 rfl rfl)
theorem dX1_wish_2 : decode cX1_wish 2 = .ok (.invokevirtual 414, 3) := dk_182 1 158 (dk_at dksX1_wish_0 2 rfl rfl)
theorem dX1_wish_5 : decode cX1_wish 5 = .ok (.iload_n 2, 1) := dk_28 (dk_at dksX1_wish_0 5 rfl rfl)
theorem dX1_wish_6 : decode cX1_wish 6 = .ok (.iconst 0, 1) := dk_3 (dk_at dksX1_wish_0 6 rfl rfl)
theorem dX1_wish_7 : decode cX1_wish 7 = .ok (.aload_n 0, 1) := dk_42 (dk_at dksX1_wish_0 7 rfl rfl)
theorem dX1_wish_8 : decode cX1_wish 8 = .ok (.getfield 10, 3) := dk_180 0 10 (dk_at dksX1_wish_0 8 rfl rfl)
theorem dX1_wish_11 : decode cX1_wish 11 = .ok (.getfield 102, 3) := dk_180 0 102 (dk_at dksX1_wish_0 11 rfl rfl)
theorem dX1_wish_14 : decode cX1_wish 14 = .ok (.iconst 1, 1) := dk_4 (dk_at dksX1_wish_0 14 rfl rfl)
theorem dX1_wish_15 : decode cX1_wish 15 = .ok (.isub, 1) := dk_100 (dk_at dksX1_wish_0 15 rfl rfl)
theorem dX1_wish_16 : decode cX1_wish 16 = .ok (.invokestatic 91, 3) := dk_184 0 91 (dk_at dksX1_wish_0 16 rfl rfl)
theorem dX1_wish_19 : decode cX1_wish 19 = .ok (.ifCond .eq 20, 3) := dk_153 0 20 (dk_at dksX1_wish_0 19 rfl rfl)
theorem dX1_wish_22 : decode cX1_wish 22 = .ok (.aload_n 0, 1) := dk_42 (dk_at dksX1_wish_0 22 rfl rfl)
theorem dX1_wish_23 : decode cX1_wish 23 = .ok (.getfield 10, 3) := dk_180 0 10 (dk_at dksX1_wish_1 0 rfl rfl)
theorem dX1_wish_26 : decode cX1_wish 26 = .ok (.getfield 150, 3) := dk_180 0 150 (dk_at dksX1_wish_1 3 rfl rfl)
theorem dX1_wish_29 : decode cX1_wish 29 = .ok (.bipush 10, 2) := dk_16 10 (dk_at dksX1_wish_1 6 rfl rfl)
theorem dX1_wish_31 : decode cX1_wish 31 = .ok (.iload_n 1, 1) := dk_27 (dk_at dksX1_wish_1 8 rfl rfl)
theorem dX1_wish_32 : decode cX1_wish 32 = .ok (.imul, 1) := dk_104 (dk_at dksX1_wish_1 9 rfl rfl)
theorem dX1_wish_33 : decode cX1_wish 33 = .ok (.iload_n 2, 1) := dk_28 (dk_at dksX1_wish_1 10 rfl rfl)
theorem dX1_wish_34 : decode cX1_wish 34 = .ok (.iadd, 1) := dk_96 (dk_at dksX1_wish_1 11 rfl rfl)
theorem dX1_wish_35 : decode cX1_wish 35 = .ok (.iaload, 1) := dk_46 (dk_at dksX1_wish_1 12 rfl rfl)
theorem dX1_wish_36 : decode cX1_wish 36 = .ok (.goto 4, 3) := dk_167 0 4 (dk_at dksX1_wish_1 13 rfl rfl)
theorem dX1_wish_39 : decode cX1_wish 39 = .ok (.iconst (-1), 1) := dk_2 (dk_at dksX1_wish_1 16 rfl rfl)
theorem dX1_wish_40 : decode cX1_wish 40 = .ok (.ireturn, 1) := dk_172 (dk_at dksX1_wish_1 17 rfl rfl)
abbrev cX1_thinks : ByteArray := prog_1_method_44_code
def yX1_thinks : MethodName := ⟨RX1, "thinks", "(II)I"⟩
def dkwX1_thinks_0 : List UInt8 := [42, 27, 28, 182, 1, 188, 42, 180, 0, 10, 180, 0, 135, 16, 10, 27, 104, 28, 96, 46, 172]
abbrev dktX1_thinks_0 : List UInt8 := dkwX1_thinks_0 ++ []
theorem dksX1_thinks_0 : cX1_thinks.data.toList.drop 0 = dktX1_thinks_0 := by decide +kernel
theorem dX1_thinks_0 : decode cX1_thinks 0 = .ok (.aload_n 0, 1) := dk_42 (dk_at dksX1_thinks_0 0 rfl rfl)
theorem dX1_thinks_1 : decode cX1_thinks 1 = .ok (.iload_n 1, 1) := dk_27 (dk_at dksX1_thinks_0 1 rfl rfl)
theorem dX1_thinks_2 : decode cX1_thinks 2 = .ok (.iload_n 2, 1) := dk_28 (dk_at dksX1_thinks_0 2 rfl rfl)
theorem dX1_thinks_3 : decode cX1_thinks 3 = .ok (.invokevirtual 444, 3) := dk_182 1 188 (dk_at dksX1_thinks_0 3 rfl rfl)
theorem dX1_thinks_6 : decode cX1_thinks 6 = .ok (.aload_n 0, 1) := dk_42 (dk_at dksX1_thinks_0 6 rfl rfl)
theorem dX1_thinks_7 : decode cX1_thinks 7 = .ok (.getfield 10, 3) := dk_180 0 10 (dk_at dksX1_thinks_0 7 rfl rfl)
theorem dX1_thinks_10 : decode cX1_thinks 10 = .ok (.getfield 135, 3) := dk_180 0 135 (dk_at dksX1_thinks_0 10 rfl rfl)
theorem dX1_thinks_13 : decode cX1_thinks 13 = .ok (.bipush 10, 2) := dk_16 10 (dk_at dksX1_thinks_0 13 rfl rfl)
theorem dX1_thinks_15 : decode cX1_thinks 15 = .ok (.iload_n 1, 1) := dk_27 (dk_at dksX1_thinks_0 15 rfl rfl)
theorem dX1_thinks_16 : decode cX1_thinks 16 = .ok (.imul, 1) := dk_104 (dk_at dksX1_thinks_0 16 rfl rfl)
theorem dX1_thinks_17 : decode cX1_thinks 17 = .ok (.iload_n 2, 1) := dk_28 (dk_at dksX1_thinks_0 17 rfl rfl)
theorem dX1_thinks_18 : decode cX1_thinks 18 = .ok (.iadd, 1) := dk_96 (dk_at dksX1_thinks_0 18 rfl rfl)
theorem dX1_thinks_19 : decode cX1_thinks 19 = .ok (.iaload, 1) := dk_46 (dk_at dksX1_thinks_0 19 rfl rfl)
theorem dX1_thinks_20 : decode cX1_thinks 20 = .ok (.ireturn, 1) := dk_172 (dk_at dksX1_thinks_0 20 rfl rfl)
abbrev cX1_twoAt : ByteArray := prog_1_method_35_code
def yX1_twoAt : MethodName := ⟨RX1, "twoAt", "(II)V"⟩
def dkwX1_twoAt_0 : List UInt8 := [42, 27, 182, 1, 158, 42, 28, 182, 1, 158, 27, 28, 159, 0, 7, 4, 167, 0, 4, 3, 184, 1, 161, 177]
abbrev dktX1_twoAt_0 : List UInt8 := dkwX1_twoAt_0 ++ []
theorem dksX1_twoAt_0 : cX1_twoAt.data.toList.drop 0 = dktX1_twoAt_0 := by decide +kernel
theorem dX1_twoAt_0 : decode cX1_twoAt 0 = .ok (.aload_n 0, 1) := dk_42 (dk_at dksX1_twoAt_0 0 rfl rfl)
theorem dX1_twoAt_1 : decode cX1_twoAt 1 = .ok (.iload_n 1, 1) := dk_27 (dk_at dksX1_twoAt_0 1 rfl rfl)
theorem dX1_twoAt_2 : decode cX1_twoAt 2 = .ok (.invokevirtual 414, 3) := dk_182 1 158 (dk_at dksX1_twoAt_0 2 rfl rfl)
theorem dX1_twoAt_5 : decode cX1_twoAt 5 = .ok (.aload_n 0, 1) := dk_42 (dk_at dksX1_twoAt_0 5 rfl rfl)
theorem dX1_twoAt_6 : decode cX1_twoAt 6 = .ok (.iload_n 2, 1) := dk_28 (dk_at dksX1_twoAt_0 6 rfl rfl)
theorem dX1_twoAt_7 : decode cX1_twoAt 7 = .ok (.invokevirtual 414, 3) := dk_182 1 158 (dk_at dksX1_twoAt_0 7 rfl rfl)
theorem dX1_twoAt_10 : decode cX1_twoAt 10 = .ok (.iload_n 1, 1) := dk_27 (dk_at dksX1_twoAt_0 10 rfl rfl)
theorem dX1_twoAt_11 : decode cX1_twoAt 11 = .ok (.iload_n 2, 1) := dk_28 (dk_at dksX1_twoAt_0 11 rfl rfl)
theorem dX1_twoAt_12 : decode cX1_twoAt 12 = .ok (.if_icmp .eq 7, 3) := dk_159 0 7 (dk_at dksX1_twoAt_0 12 rfl rfl)
theorem dX1_twoAt_15 : decode cX1_twoAt 15 = .ok (.iconst 1, 1) := dk_4 (dk_at dksX1_twoAt_0 15 rfl rfl)
theorem dX1_twoAt_16 : decode cX1_twoAt 16 = .ok (.goto 4, 3) := dk_167 0 4 (dk_at dksX1_twoAt_0 16 rfl rfl)
theorem dX1_twoAt_19 : decode cX1_twoAt 19 = .ok (.iconst 0, 1) := dk_3 (dk_at dksX1_twoAt_0 19 rfl rfl)
theorem dX1_twoAt_20 : decode cX1_twoAt 20 = .ok (.invokestatic 417, 3) := dk_184 1 161 (dk_at dksX1_twoAt_0 20 rfl rfl)
theorem dX1_twoAt_23 : decode cX1_twoAt 23 = .ok (.return_, 1) := dk_177 (dk_at dksX1_twoAt_0 23 rfl rfl)
abbrev cX1_demand : ByteArray := prog_1_method_30_code
def yX1_demand : MethodName := ⟨RX1, "demand", "(Z)V"⟩
def dkwX1_demand_0 : List UInt8 := [26, 154, 0, 11, 187, 0, 230, 89, 183, 0, 232, 191, 177]
abbrev dktX1_demand_0 : List UInt8 := dkwX1_demand_0 ++ []
theorem dksX1_demand_0 : cX1_demand.data.toList.drop 0 = dktX1_demand_0 := by decide +kernel
theorem dX1_demand_0 : decode cX1_demand 0 = .ok (.iload_n 0, 1) := dk_26 (dk_at dksX1_demand_0 0 rfl rfl)
theorem dX1_demand_1 : decode cX1_demand 1 = .ok (.ifCond .ne 11, 3) := dk_154 0 11 (dk_at dksX1_demand_0 1 rfl rfl)
theorem dX1_demand_4 : decode cX1_demand 4 = .ok (.new 230, 3) := dk_187 0 230 (dk_at dksX1_demand_0 4 rfl rfl)
theorem dX1_demand_7 : decode cX1_demand 7 = .ok (.dup, 1) := dk_89 (dk_at dksX1_demand_0 7 rfl rfl)
theorem dX1_demand_8 : decode cX1_demand 8 = .ok (.invokespecial 232, 3) := dk_183 0 232 (dk_at dksX1_demand_0 8 rfl rfl)
theorem dX1_demand_11 : decode cX1_demand 11 = .ok (.athrow, 1) := dk_191 (dk_at dksX1_demand_0 11 rfl rfl)
theorem dX1_demand_12 : decode cX1_demand 12 = .ok (.return_, 1) := dk_177 (dk_at dksX1_demand_0 12 rfl rfl)
abbrev cX1_hand : ByteArray := prog_1_method_46_code
def yX1_hand : MethodName := ⟨RX1, "hand", "(II)I"⟩
def dkwX1_hand_3 : List UInt8 := [42, 180, 0, 10, 180, 0, 160, 28, 46, 172]
abbrev dktX1_hand_3 : List UInt8 := dkwX1_hand_3 ++ []
def dkwX1_hand_2 : List UInt8 := [160, 0, 7, 4, 167, 0, 4, 3, 184, 1, 195, 42, 182, 1, 198, 42, 180, 0, 10, 27, 28, 182, 1, 201]
abbrev dktX1_hand_2 : List UInt8 := dkwX1_hand_2 ++ dktX1_hand_3
def dkwX1_hand_1 : List UInt8 := [180, 0, 10, 180, 0, 123, 27, 46, 2, 160, 0, 20, 42, 180, 0, 10, 180, 0, 160, 28, 46, 2]
abbrev dktX1_hand_1 : List UInt8 := dkwX1_hand_1 ++ dktX1_hand_2
def dkwX1_hand_0 : List UInt8 := [42, 27, 182, 1, 158, 42, 28, 182, 1, 185, 42, 180, 0, 10, 180, 0, 120, 27, 46, 2, 159, 0, 33, 42]
abbrev dktX1_hand_0 : List UInt8 := dkwX1_hand_0 ++ dktX1_hand_1
theorem dksX1_hand_0 : cX1_hand.data.toList.drop 0 = dktX1_hand_0 := by decide +kernel
theorem dksX1_hand_1 : cX1_hand.data.toList.drop 24 = dktX1_hand_1 := dk_seg dksX1_hand_0 24 rfl rfl
theorem dksX1_hand_2 : cX1_hand.data.toList.drop 46 = dktX1_hand_2 := dk_seg dksX1_hand_1 22 rfl rfl
theorem dksX1_hand_3 : cX1_hand.data.toList.drop 70 = dktX1_hand_3 := dk_seg dksX1_hand_2 24 rfl rfl
theorem dX1_hand_0 : decode cX1_hand 0 = .ok (.aload_n 0, 1) := dk_42 (dk_at dksX1_hand_0 0 rfl rfl)
theorem dX1_hand_1 : decode cX1_hand 1 = .ok (.iload_n 1, 1) := dk_27 (dk_at dksX1_hand_0 1 rfl rfl)
theorem dX1_hand_2 : decode cX1_hand 2 = .ok (.invokevirtual 414, 3) := dk_182 1 158 (dk_at dksX1_hand_0 2 rfl rfl)
theorem dX1_hand_5 : decode cX1_hand 5 = .ok (.aload_n 0, 1) := dk_42 (dk_at dksX1_hand_0 5 rfl rfl)
theorem dX1_hand_6 : decode cX1_hand 6 = .ok (.iload_n 2, 1) := dk_28 (dk_at dksX1_hand_0 6 rfl rfl)
theorem dX1_hand_7 : decode cX1_hand 7 = .ok (.invokevirtual 441, 3) := dk_182 1 185 (dk_at dksX1_hand_0 7 rfl rfl)
theorem dX1_hand_10 : decode cX1_hand 10 = .ok (.aload_n 0, 1) := dk_42 (dk_at dksX1_hand_0 10 rfl rfl)
theorem dX1_hand_11 : decode cX1_hand 11 = .ok (.getfield 10, 3) := dk_180 0 10 (dk_at dksX1_hand_0 11 rfl rfl)
theorem dX1_hand_14 : decode cX1_hand 14 = .ok (.getfield 120, 3) := dk_180 0 120 (dk_at dksX1_hand_0 14 rfl rfl)
theorem dX1_hand_17 : decode cX1_hand 17 = .ok (.iload_n 1, 1) := dk_27 (dk_at dksX1_hand_0 17 rfl rfl)
theorem dX1_hand_18 : decode cX1_hand 18 = .ok (.iaload, 1) := dk_46 (dk_at dksX1_hand_0 18 rfl rfl)
theorem dX1_hand_19 : decode cX1_hand 19 = .ok (.iconst (-1), 1) := dk_2 (dk_at dksX1_hand_0 19 rfl rfl)
theorem dX1_hand_20 : decode cX1_hand 20 = .ok (.if_icmp .eq 33, 3) := dk_159 0 33 (dk_at dksX1_hand_0 20 rfl rfl)
theorem dX1_hand_23 : decode cX1_hand 23 = .ok (.aload_n 0, 1) := dk_42 (dk_at dksX1_hand_0 23 rfl rfl)
theorem dX1_hand_24 : decode cX1_hand 24 = .ok (.getfield 10, 3) := dk_180 0 10 (dk_at dksX1_hand_1 0 rfl rfl)
theorem dX1_hand_27 : decode cX1_hand 27 = .ok (.getfield 123, 3) := dk_180 0 123 (dk_at dksX1_hand_1 3 rfl rfl)
theorem dX1_hand_30 : decode cX1_hand 30 = .ok (.iload_n 1, 1) := dk_27 (dk_at dksX1_hand_1 6 rfl rfl)
theorem dX1_hand_31 : decode cX1_hand 31 = .ok (.iaload, 1) := dk_46 (dk_at dksX1_hand_1 7 rfl rfl)
theorem dX1_hand_32 : decode cX1_hand 32 = .ok (.iconst (-1), 1) := dk_2 (dk_at dksX1_hand_1 8 rfl rfl)
theorem dX1_hand_33 : decode cX1_hand 33 = .ok (.if_icmp .ne 20, 3) := dk_160 0 20 (dk_at dksX1_hand_1 9 rfl rfl)
theorem dX1_hand_36 : decode cX1_hand 36 = .ok (.aload_n 0, 1) := dk_42 (dk_at dksX1_hand_1 12 rfl rfl)
theorem dX1_hand_37 : decode cX1_hand 37 = .ok (.getfield 10, 3) := dk_180 0 10 (dk_at dksX1_hand_1 13 rfl rfl)
theorem dX1_hand_40 : decode cX1_hand 40 = .ok (.getfield 160, 3) := dk_180 0 160 (dk_at dksX1_hand_1 16 rfl rfl)
theorem dX1_hand_43 : decode cX1_hand 43 = .ok (.iload_n 2, 1) := dk_28 (dk_at dksX1_hand_1 19 rfl rfl)
theorem dX1_hand_44 : decode cX1_hand 44 = .ok (.iaload, 1) := dk_46 (dk_at dksX1_hand_1 20 rfl rfl)
theorem dX1_hand_45 : decode cX1_hand 45 = .ok (.iconst (-1), 1) := dk_2 (dk_at dksX1_hand_1 21 rfl rfl)
theorem dX1_hand_46 : decode cX1_hand 46 = .ok (.if_icmp .ne 7, 3) := dk_160 0 7 (dk_at dksX1_hand_2 0 rfl rfl)
theorem dX1_hand_49 : decode cX1_hand 49 = .ok (.iconst 1, 1) := dk_4 (dk_at dksX1_hand_2 3 rfl rfl)
theorem dX1_hand_50 : decode cX1_hand 50 = .ok (.goto 4, 3) := dk_167 0 4 (dk_at dksX1_hand_2 4 rfl rfl)
theorem dX1_hand_53 : decode cX1_hand 53 = .ok (.iconst 0, 1) := dk_3 (dk_at dksX1_hand_2 7 rfl rfl)
theorem dX1_hand_54 : decode cX1_hand 54 = .ok (.invokestatic 451, 3) := dk_184 1 195 (dk_at dksX1_hand_2 8 rfl rfl)
theorem dX1_hand_57 : decode cX1_hand 57 = .ok (.aload_n 0, 1) := dk_42 (dk_at dksX1_hand_2 11 rfl rfl)
theorem dX1_hand_58 : decode cX1_hand 58 = .ok (.invokevirtual 454, 3) := dk_182 1 198 (dk_at dksX1_hand_2 12 rfl rfl)
theorem dX1_hand_61 : decode cX1_hand 61 = .ok (.aload_n 0, 1) := dk_42 (dk_at dksX1_hand_2 15 rfl rfl)
theorem dX1_hand_62 : decode cX1_hand 62 = .ok (.getfield 10, 3) := dk_180 0 10 (dk_at dksX1_hand_2 16 rfl rfl)
theorem dX1_hand_65 : decode cX1_hand 65 = .ok (.iload_n 1, 1) := dk_27 (dk_at dksX1_hand_2 19 rfl rfl)
theorem dX1_hand_66 : decode cX1_hand 66 = .ok (.iload_n 2, 1) := dk_28 (dk_at dksX1_hand_2 20 rfl rfl)
theorem dX1_hand_67 : decode cX1_hand 67 = .ok (.invokevirtual 457, 3) := dk_182 1 201 (dk_at dksX1_hand_2 21 rfl rfl)
theorem dX1_hand_70 : decode cX1_hand 70 = .ok (.aload_n 0, 1) := dk_42 (dk_at dksX1_hand_3 0 rfl rfl)
theorem dX1_hand_71 : decode cX1_hand 71 = .ok (.getfield 10, 3) := dk_180 0 10 (dk_at dksX1_hand_3 1 rfl rfl)
theorem dX1_hand_74 : decode cX1_hand 74 = .ok (.getfield 160, 3) := dk_180 0 160 (dk_at dksX1_hand_3 4 rfl rfl)
theorem dX1_hand_77 : decode cX1_hand 77 = .ok (.iload_n 2, 1) := dk_28 (dk_at dksX1_hand_3 7 rfl rfl)
theorem dX1_hand_78 : decode cX1_hand 78 = .ok (.iaload, 1) := dk_46 (dk_at dksX1_hand_3 8 rfl rfl)
theorem dX1_hand_79 : decode cX1_hand 79 = .ok (.ireturn, 1) := dk_172 (dk_at dksX1_hand_3 9 rfl rfl)
abbrev cX1_can : ByteArray := prog_1_method_31_code
def yX1_can : MethodName := ⟨RX1, "can", "(Z)V"⟩
def dkwX1_can_0 : List UInt8 := [26, 154, 0, 11, 187, 1, 149, 89, 183, 1, 151, 191, 177]
abbrev dktX1_can_0 : List UInt8 := dkwX1_can_0 ++ []
theorem dksX1_can_0 : cX1_can.data.toList.drop 0 = dktX1_can_0 := by decide +kernel
theorem dX1_can_0 : decode cX1_can 0 = .ok (.iload_n 0, 1) := dk_26 (dk_at dksX1_can_0 0 rfl rfl)
theorem dX1_can_1 : decode cX1_can 1 = .ok (.ifCond .ne 11, 3) := dk_154 0 11 (dk_at dksX1_can_0 1 rfl rfl)
theorem dX1_can_4 : decode cX1_can 4 = .ok (.new 405, 3) := dk_187 1 149 (dk_at dksX1_can_0 4 rfl rfl)
theorem dX1_can_7 : decode cX1_can 7 = .ok (.dup, 1) := dk_89 (dk_at dksX1_can_0 7 rfl rfl)
theorem dX1_can_8 : decode cX1_can 8 = .ok (.invokespecial 407, 3) := dk_183 1 151 (dk_at dksX1_can_0 8 rfl rfl)
theorem dX1_can_11 : decode cX1_can 11 = .ok (.athrow, 1) := dk_191 (dk_at dksX1_can_0 11 rfl rfl)
theorem dX1_can_12 : decode cX1_can 12 = .ok (.return_, 1) := dk_177 (dk_at dksX1_can_0 12 rfl rfl)
abbrev cX1_remembers : ByteArray := prog_1_method_45_code
def yX1_remembers : MethodName := ⟨RX1, "remembers", "()V"⟩
def dkwX1_remembers_2 : List UInt8 := [182, 1, 22, 87, 177]
abbrev dktX1_remembers_2 : List UInt8 := dkwX1_remembers_2 ++ []
def dkwX1_remembers_1 : List UInt8 := [167, 0, 10, 187, 0, 7, 89, 183, 0, 9, 76, 42, 180, 0, 39, 43, 42, 180, 0, 10, 182, 0, 236]
abbrev dktX1_remembers_1 : List UInt8 := dkwX1_remembers_1 ++ dktX1_remembers_2
def dkwX1_remembers_0 : List UInt8 := [42, 180, 0, 39, 182, 1, 94, 16, 12, 160, 0, 17, 42, 180, 0, 39, 3, 182, 1, 191, 192, 0, 7]
abbrev dktX1_remembers_0 : List UInt8 := dkwX1_remembers_0 ++ dktX1_remembers_1
theorem dksX1_remembers_0 : cX1_remembers.data.toList.drop 0 = dktX1_remembers_0 := by decide +kernel
theorem dksX1_remembers_1 : cX1_remembers.data.toList.drop 23 = dktX1_remembers_1 := dk_seg dksX1_remembers_0 23 rfl rfl
theorem dksX1_remembers_2 : cX1_remembers.data.toList.drop 46 = dktX1_remembers_2 := dk_seg dksX1_remembers_1 23 rfl rfl
theorem dX1_remembers_0 : decode cX1_remembers 0 = .ok (.aload_n 0, 1) := dk_42 (dk_at dksX1_remembers_0 0 rfl rfl)
theorem dX1_remembers_1 : decode cX1_remembers 1 = .ok (.getfield 39, 3) := dk_180 0 39 (dk_at dksX1_remembers_0 1 rfl rfl)
theorem dX1_remembers_4 : decode cX1_remembers 4 = .ok (.invokevirtual 350, 3) := dk_182 1 94 (dk_at dksX1_remembers_0 4 rfl rfl)
theorem dX1_remembers_7 : decode cX1_remembers 7 = .ok (.bipush 12, 2) := dk_16 12 (dk_at dksX1_remembers_0 7 rfl rfl)
theorem dX1_remembers_9 : decode cX1_remembers 9 = .ok (.if_icmp .ne 17, 3) := dk_160 0 17 (dk_at dksX1_remembers_0 9 rfl rfl)
theorem dX1_remembers_12 : decode cX1_remembers 12 = .ok (.aload_n 0, 1) := dk_42 (dk_at dksX1_remembers_0 12 rfl rfl)
theorem dX1_remembers_13 : decode cX1_remembers 13 = .ok (.getfield 39, 3) := dk_180 0 39 (dk_at dksX1_remembers_0 13 rfl rfl)
theorem dX1_remembers_16 : decode cX1_remembers 16 = .ok (.iconst 0, 1) := dk_3 (dk_at dksX1_remembers_0 16 rfl rfl)
theorem dX1_remembers_17 : decode cX1_remembers 17 = .ok (.invokevirtual 447, 3) := dk_182 1 191 (dk_at dksX1_remembers_0 17 rfl rfl)
theorem dX1_remembers_20 : decode cX1_remembers 20 = .ok (.checkcast 7, 3) := dk_192 0 7 (dk_at dksX1_remembers_0 20 rfl rfl)
theorem dX1_remembers_23 : decode cX1_remembers 23 = .ok (.goto 10, 3) := dk_167 0 10 (dk_at dksX1_remembers_1 0 rfl rfl)
theorem dX1_remembers_26 : decode cX1_remembers 26 = .ok (.new 7, 3) := dk_187 0 7 (dk_at dksX1_remembers_1 3 rfl rfl)
theorem dX1_remembers_29 : decode cX1_remembers 29 = .ok (.dup, 1) := dk_89 (dk_at dksX1_remembers_1 6 rfl rfl)
theorem dX1_remembers_30 : decode cX1_remembers 30 = .ok (.invokespecial 9, 3) := dk_183 0 9 (dk_at dksX1_remembers_1 7 rfl rfl)
theorem dX1_remembers_33 : decode cX1_remembers 33 = .ok (.astore_n 1, 1) := dk_76 (dk_at dksX1_remembers_1 10 rfl rfl)
theorem dX1_remembers_34 : decode cX1_remembers 34 = .ok (.aload_n 0, 1) := dk_42 (dk_at dksX1_remembers_1 11 rfl rfl)
theorem dX1_remembers_35 : decode cX1_remembers 35 = .ok (.getfield 39, 3) := dk_180 0 39 (dk_at dksX1_remembers_1 12 rfl rfl)
theorem dX1_remembers_38 : decode cX1_remembers 38 = .ok (.aload_n 1, 1) := dk_43 (dk_at dksX1_remembers_1 15 rfl rfl)
theorem dX1_remembers_39 : decode cX1_remembers 39 = .ok (.aload_n 0, 1) := dk_42 (dk_at dksX1_remembers_1 16 rfl rfl)
theorem dX1_remembers_40 : decode cX1_remembers 40 = .ok (.getfield 10, 3) := dk_180 0 10 (dk_at dksX1_remembers_1 17 rfl rfl)
theorem dX1_remembers_43 : decode cX1_remembers 43 = .ok (.invokevirtual 236, 3) := dk_182 0 236 (dk_at dksX1_remembers_1 20 rfl rfl)
theorem dX1_remembers_46 : decode cX1_remembers 46 = .ok (.invokevirtual 278, 3) := dk_182 1 22 (dk_at dksX1_remembers_2 0 rfl rfl)
theorem dX1_remembers_49 : decode cX1_remembers 49 = .ok (.pop, 1) := dk_87 (dk_at dksX1_remembers_2 3 rfl rfl)
theorem dX1_remembers_50 : decode cX1_remembers 50 = .ok (.return_, 1) := dk_177 (dk_at dksX1_remembers_2 4 rfl rfl)
abbrev cX1_fetch : ByteArray := prog_1_method_47_code
def yX1_fetch : MethodName := ⟨RX1, "fetch", "(I)I"⟩
def dkwX1_fetch_2 : List UInt8 := [180, 0, 10, 27, 182, 1, 204, 42, 180, 0, 10, 180, 0, 120, 27, 46, 172]
abbrev dktX1_fetch_2 : List UInt8 := dkwX1_fetch_2 ++ []
def dkwX1_fetch_1 : List UInt8 := [180, 0, 120, 27, 46, 2, 160, 0, 7, 4, 167, 0, 4, 3, 184, 1, 195, 42, 182, 1, 198, 42]
abbrev dktX1_fetch_1 : List UInt8 := dkwX1_fetch_1 ++ dktX1_fetch_2
def dkwX1_fetch_0 : List UInt8 := [42, 27, 182, 1, 158, 42, 180, 0, 10, 180, 0, 123, 27, 46, 2, 159, 0, 20, 42, 180, 0, 10]
abbrev dktX1_fetch_0 : List UInt8 := dkwX1_fetch_0 ++ dktX1_fetch_1
theorem dksX1_fetch_0 : cX1_fetch.data.toList.drop 0 = dktX1_fetch_0 := by decide +kernel
theorem dksX1_fetch_1 : cX1_fetch.data.toList.drop 22 = dktX1_fetch_1 := dk_seg dksX1_fetch_0 22 rfl rfl
theorem dksX1_fetch_2 : cX1_fetch.data.toList.drop 44 = dktX1_fetch_2 := dk_seg dksX1_fetch_1 22 rfl rfl
theorem dX1_fetch_0 : decode cX1_fetch 0 = .ok (.aload_n 0, 1) := dk_42 (dk_at dksX1_fetch_0 0 rfl rfl)
theorem dX1_fetch_1 : decode cX1_fetch 1 = .ok (.iload_n 1, 1) := dk_27 (dk_at dksX1_fetch_0 1 rfl rfl)
theorem dX1_fetch_2 : decode cX1_fetch 2 = .ok (.invokevirtual 414, 3) := dk_182 1 158 (dk_at dksX1_fetch_0 2 rfl rfl)
theorem dX1_fetch_5 : decode cX1_fetch 5 = .ok (.aload_n 0, 1) := dk_42 (dk_at dksX1_fetch_0 5 rfl rfl)
theorem dX1_fetch_6 : decode cX1_fetch 6 = .ok (.getfield 10, 3) := dk_180 0 10 (dk_at dksX1_fetch_0 6 rfl rfl)
theorem dX1_fetch_9 : decode cX1_fetch 9 = .ok (.getfield 123, 3) := dk_180 0 123 (dk_at dksX1_fetch_0 9 rfl rfl)
theorem dX1_fetch_12 : decode cX1_fetch 12 = .ok (.iload_n 1, 1) := dk_27 (dk_at dksX1_fetch_0 12 rfl rfl)
theorem dX1_fetch_13 : decode cX1_fetch 13 = .ok (.iaload, 1) := dk_46 (dk_at dksX1_fetch_0 13 rfl rfl)
theorem dX1_fetch_14 : decode cX1_fetch 14 = .ok (.iconst (-1), 1) := dk_2 (dk_at dksX1_fetch_0 14 rfl rfl)
theorem dX1_fetch_15 : decode cX1_fetch 15 = .ok (.if_icmp .eq 20, 3) := dk_159 0 20 (dk_at dksX1_fetch_0 15 rfl rfl)
theorem dX1_fetch_18 : decode cX1_fetch 18 = .ok (.aload_n 0, 1) := dk_42 (dk_at dksX1_fetch_0 18 rfl rfl)
theorem dX1_fetch_19 : decode cX1_fetch 19 = .ok (.getfield 10, 3) := dk_180 0 10 (dk_at dksX1_fetch_0 19 rfl rfl)
theorem dX1_fetch_22 : decode cX1_fetch 22 = .ok (.getfield 120, 3) := dk_180 0 120 (dk_at dksX1_fetch_1 0 rfl rfl)
theorem dX1_fetch_25 : decode cX1_fetch 25 = .ok (.iload_n 1, 1) := dk_27 (dk_at dksX1_fetch_1 3 rfl rfl)
theorem dX1_fetch_26 : decode cX1_fetch 26 = .ok (.iaload, 1) := dk_46 (dk_at dksX1_fetch_1 4 rfl rfl)
theorem dX1_fetch_27 : decode cX1_fetch 27 = .ok (.iconst (-1), 1) := dk_2 (dk_at dksX1_fetch_1 5 rfl rfl)
theorem dX1_fetch_28 : decode cX1_fetch 28 = .ok (.if_icmp .ne 7, 3) := dk_160 0 7 (dk_at dksX1_fetch_1 6 rfl rfl)
theorem dX1_fetch_31 : decode cX1_fetch 31 = .ok (.iconst 1, 1) := dk_4 (dk_at dksX1_fetch_1 9 rfl rfl)
theorem dX1_fetch_32 : decode cX1_fetch 32 = .ok (.goto 4, 3) := dk_167 0 4 (dk_at dksX1_fetch_1 10 rfl rfl)
theorem dX1_fetch_35 : decode cX1_fetch 35 = .ok (.iconst 0, 1) := dk_3 (dk_at dksX1_fetch_1 13 rfl rfl)
theorem dX1_fetch_36 : decode cX1_fetch 36 = .ok (.invokestatic 451, 3) := dk_184 1 195 (dk_at dksX1_fetch_1 14 rfl rfl)
theorem dX1_fetch_39 : decode cX1_fetch 39 = .ok (.aload_n 0, 1) := dk_42 (dk_at dksX1_fetch_1 17 rfl rfl)
theorem dX1_fetch_40 : decode cX1_fetch 40 = .ok (.invokevirtual 454, 3) := dk_182 1 198 (dk_at dksX1_fetch_1 18 rfl rfl)
theorem dX1_fetch_43 : decode cX1_fetch 43 = .ok (.aload_n 0, 1) := dk_42 (dk_at dksX1_fetch_1 21 rfl rfl)
theorem dX1_fetch_44 : decode cX1_fetch 44 = .ok (.getfield 10, 3) := dk_180 0 10 (dk_at dksX1_fetch_2 0 rfl rfl)
theorem dX1_fetch_47 : decode cX1_fetch 47 = .ok (.iload_n 1, 1) := dk_27 (dk_at dksX1_fetch_2 3 rfl rfl)
theorem dX1_fetch_48 : decode cX1_fetch 48 = .ok (.invokevirtual 460, 3) := dk_182 1 204 (dk_at dksX1_fetch_2 4 rfl rfl)
theorem dX1_fetch_51 : decode cX1_fetch 51 = .ok (.aload_n 0, 1) := dk_42 (dk_at dksX1_fetch_2 7 rfl rfl)
theorem dX1_fetch_52 : decode cX1_fetch 52 = .ok (.getfield 10, 3) := dk_180 0 10 (dk_at dksX1_fetch_2 8 rfl rfl)
theorem dX1_fetch_55 : decode cX1_fetch 55 = .ok (.getfield 120, 3) := dk_180 0 120 (dk_at dksX1_fetch_2 11 rfl rfl)
theorem dX1_fetch_58 : decode cX1_fetch 58 = .ok (.iload_n 1, 1) := dk_27 (dk_at dksX1_fetch_2 14 rfl rfl)
theorem dX1_fetch_59 : decode cX1_fetch 59 = .ok (.iaload, 1) := dk_46 (dk_at dksX1_fetch_2 15 rfl rfl)
theorem dX1_fetch_60 : decode cX1_fetch 60 = .ok (.ireturn, 1) := dk_172 (dk_at dksX1_fetch_2 16 rfl rfl)
abbrev cX1_mix : ByteArray := prog_1_method_48_code
def yX1_mix : MethodName := ⟨RX1, "mix", "(II)I"⟩
def dkwX1_mix_2 : List UInt8 := [180, 0, 10, 27, 28, 182, 1, 207, 42, 180, 0, 10, 180, 0, 123, 27, 46, 172]
abbrev dktX1_mix_2 : List UInt8 := dkwX1_mix_2 ++ []
def dkwX1_mix_1 : List UInt8 := [180, 0, 123, 28, 46, 2, 159, 0, 7, 4, 167, 0, 4, 3, 184, 1, 195, 42, 182, 1, 198, 42]
abbrev dktX1_mix_1 : List UInt8 := dkwX1_mix_1 ++ dktX1_mix_2
def dkwX1_mix_0 : List UInt8 := [42, 27, 28, 182, 1, 188, 42, 180, 0, 10, 180, 0, 123, 27, 46, 2, 159, 0, 20, 42, 180, 0, 10]
abbrev dktX1_mix_0 : List UInt8 := dkwX1_mix_0 ++ dktX1_mix_1
theorem dksX1_mix_0 : cX1_mix.data.toList.drop 0 = dktX1_mix_0 := by decide +kernel
theorem dksX1_mix_1 : cX1_mix.data.toList.drop 23 = dktX1_mix_1 := dk_seg dksX1_mix_0 23 rfl rfl
theorem dksX1_mix_2 : cX1_mix.data.toList.drop 45 = dktX1_mix_2 := dk_seg dksX1_mix_1 22 rfl rfl
theorem dX1_mix_0 : decode cX1_mix 0 = .ok (.aload_n 0, 1) := dk_42 (dk_at dksX1_mix_0 0 rfl rfl)
theorem dX1_mix_1 : decode cX1_mix 1 = .ok (.iload_n 1, 1) := dk_27 (dk_at dksX1_mix_0 1 rfl rfl)
theorem dX1_mix_2 : decode cX1_mix 2 = .ok (.iload_n 2, 1) := dk_28 (dk_at dksX1_mix_0 2 rfl rfl)
theorem dX1_mix_3 : decode cX1_mix 3 = .ok (.invokevirtual 444, 3) := dk_182 1 188 (dk_at dksX1_mix_0 3 rfl rfl)
theorem dX1_mix_6 : decode cX1_mix 6 = .ok (.aload_n 0, 1) := dk_42 (dk_at dksX1_mix_0 6 rfl rfl)
theorem dX1_mix_7 : decode cX1_mix 7 = .ok (.getfield 10, 3) := dk_180 0 10 (dk_at dksX1_mix_0 7 rfl rfl)
theorem dX1_mix_10 : decode cX1_mix 10 = .ok (.getfield 123, 3) := dk_180 0 123 (dk_at dksX1_mix_0 10 rfl rfl)
theorem dX1_mix_13 : decode cX1_mix 13 = .ok (.iload_n 1, 1) := dk_27 (dk_at dksX1_mix_0 13 rfl rfl)
theorem dX1_mix_14 : decode cX1_mix 14 = .ok (.iaload, 1) := dk_46 (dk_at dksX1_mix_0 14 rfl rfl)
theorem dX1_mix_15 : decode cX1_mix 15 = .ok (.iconst (-1), 1) := dk_2 (dk_at dksX1_mix_0 15 rfl rfl)
theorem dX1_mix_16 : decode cX1_mix 16 = .ok (.if_icmp .eq 20, 3) := dk_159 0 20 (dk_at dksX1_mix_0 16 rfl rfl)
theorem dX1_mix_19 : decode cX1_mix 19 = .ok (.aload_n 0, 1) := dk_42 (dk_at dksX1_mix_0 19 rfl rfl)
theorem dX1_mix_20 : decode cX1_mix 20 = .ok (.getfield 10, 3) := dk_180 0 10 (dk_at dksX1_mix_0 20 rfl rfl)
theorem dX1_mix_23 : decode cX1_mix 23 = .ok (.getfield 123, 3) := dk_180 0 123 (dk_at dksX1_mix_1 0 rfl rfl)
theorem dX1_mix_26 : decode cX1_mix 26 = .ok (.iload_n 2, 1) := dk_28 (dk_at dksX1_mix_1 3 rfl rfl)
theorem dX1_mix_27 : decode cX1_mix 27 = .ok (.iaload, 1) := dk_46 (dk_at dksX1_mix_1 4 rfl rfl)
theorem dX1_mix_28 : decode cX1_mix 28 = .ok (.iconst (-1), 1) := dk_2 (dk_at dksX1_mix_1 5 rfl rfl)
theorem dX1_mix_29 : decode cX1_mix 29 = .ok (.if_icmp .eq 7, 3) := dk_159 0 7 (dk_at dksX1_mix_1 6 rfl rfl)
theorem dX1_mix_32 : decode cX1_mix 32 = .ok (.iconst 1, 1) := dk_4 (dk_at dksX1_mix_1 9 rfl rfl)
theorem dX1_mix_33 : decode cX1_mix 33 = .ok (.goto 4, 3) := dk_167 0 4 (dk_at dksX1_mix_1 10 rfl rfl)
theorem dX1_mix_36 : decode cX1_mix 36 = .ok (.iconst 0, 1) := dk_3 (dk_at dksX1_mix_1 13 rfl rfl)
theorem dX1_mix_37 : decode cX1_mix 37 = .ok (.invokestatic 451, 3) := dk_184 1 195 (dk_at dksX1_mix_1 14 rfl rfl)
theorem dX1_mix_40 : decode cX1_mix 40 = .ok (.aload_n 0, 1) := dk_42 (dk_at dksX1_mix_1 17 rfl rfl)
theorem dX1_mix_41 : decode cX1_mix 41 = .ok (.invokevirtual 454, 3) := dk_182 1 198 (dk_at dksX1_mix_1 18 rfl rfl)
theorem dX1_mix_44 : decode cX1_mix 44 = .ok (.aload_n 0, 1) := dk_42 (dk_at dksX1_mix_1 21 rfl rfl)
theorem dX1_mix_45 : decode cX1_mix 45 = .ok (.getfield 10, 3) := dk_180 0 10 (dk_at dksX1_mix_2 0 rfl rfl)
theorem dX1_mix_48 : decode cX1_mix 48 = .ok (.iload_n 1, 1) := dk_27 (dk_at dksX1_mix_2 3 rfl rfl)
theorem dX1_mix_49 : decode cX1_mix 49 = .ok (.iload_n 2, 1) := dk_28 (dk_at dksX1_mix_2 4 rfl rfl)
theorem dX1_mix_50 : decode cX1_mix 50 = .ok (.invokevirtual 463, 3) := dk_182 1 207 (dk_at dksX1_mix_2 5 rfl rfl)
theorem dX1_mix_53 : decode cX1_mix 53 = .ok (.aload_n 0, 1) := dk_42 (dk_at dksX1_mix_2 8 rfl rfl)
theorem dX1_mix_54 : decode cX1_mix 54 = .ok (.getfield 10, 3) := dk_180 0 10 (dk_at dksX1_mix_2 9 rfl rfl)
theorem dX1_mix_57 : decode cX1_mix 57 = .ok (.getfield 123, 3) := dk_180 0 123 (dk_at dksX1_mix_2 12 rfl rfl)
theorem dX1_mix_60 : decode cX1_mix 60 = .ok (.iload_n 1, 1) := dk_27 (dk_at dksX1_mix_2 15 rfl rfl)
theorem dX1_mix_61 : decode cX1_mix 61 = .ok (.iaload, 1) := dk_46 (dk_at dksX1_mix_2 16 rfl rfl)
theorem dX1_mix_62 : decode cX1_mix 62 = .ok (.ireturn, 1) := dk_172 (dk_at dksX1_mix_2 17 rfl rfl)
abbrev cX1_steal : ByteArray := prog_1_method_49_code
def yX1_steal : MethodName := ⟨RX1, "steal", "(II)I"⟩
def dkwX1_steal_2 : List UInt8 := [42, 180, 0, 10, 27, 28, 178, 1, 210, 182, 1, 216, 42, 180, 0, 10, 180, 0, 120, 27, 46, 172]
abbrev dktX1_steal_2 : List UInt8 := dkwX1_steal_2 ++ []
def dkwX1_steal_1 : List UInt8 := [180, 0, 10, 180, 0, 160, 28, 46, 2, 159, 0, 7, 4, 167, 0, 4, 3, 184, 1, 195, 42, 182, 1, 198]
abbrev dktX1_steal_1 : List UInt8 := dkwX1_steal_1 ++ dktX1_steal_2
def dkwX1_steal_0 : List UInt8 := [42, 27, 182, 1, 158, 42, 28, 182, 1, 185, 42, 180, 0, 10, 180, 0, 120, 27, 46, 2, 160, 0, 20, 42]
abbrev dktX1_steal_0 : List UInt8 := dkwX1_steal_0 ++ dktX1_steal_1
theorem dksX1_steal_0 : cX1_steal.data.toList.drop 0 = dktX1_steal_0 := by decide +kernel
theorem dksX1_steal_1 : cX1_steal.data.toList.drop 24 = dktX1_steal_1 := dk_seg dksX1_steal_0 24 rfl rfl
theorem dksX1_steal_2 : cX1_steal.data.toList.drop 48 = dktX1_steal_2 := dk_seg dksX1_steal_1 24 rfl rfl
theorem dX1_steal_0 : decode cX1_steal 0 = .ok (.aload_n 0, 1) := dk_42 (dk_at dksX1_steal_0 0 rfl rfl)
theorem dX1_steal_1 : decode cX1_steal 1 = .ok (.iload_n 1, 1) := dk_27 (dk_at dksX1_steal_0 1 rfl rfl)
theorem dX1_steal_2 : decode cX1_steal 2 = .ok (.invokevirtual 414, 3) := dk_182 1 158 (dk_at dksX1_steal_0 2 rfl rfl)
theorem dX1_steal_5 : decode cX1_steal 5 = .ok (.aload_n 0, 1) := dk_42 (dk_at dksX1_steal_0 5 rfl rfl)
theorem dX1_steal_6 : decode cX1_steal 6 = .ok (.iload_n 2, 1) := dk_28 (dk_at dksX1_steal_0 6 rfl rfl)
theorem dX1_steal_7 : decode cX1_steal 7 = .ok (.invokevirtual 441, 3) := dk_182 1 185 (dk_at dksX1_steal_0 7 rfl rfl)
theorem dX1_steal_10 : decode cX1_steal 10 = .ok (.aload_n 0, 1) := dk_42 (dk_at dksX1_steal_0 10 rfl rfl)
theorem dX1_steal_11 : decode cX1_steal 11 = .ok (.getfield 10, 3) := dk_180 0 10 (dk_at dksX1_steal_0 11 rfl rfl)
theorem dX1_steal_14 : decode cX1_steal 14 = .ok (.getfield 120, 3) := dk_180 0 120 (dk_at dksX1_steal_0 14 rfl rfl)
theorem dX1_steal_17 : decode cX1_steal 17 = .ok (.iload_n 1, 1) := dk_27 (dk_at dksX1_steal_0 17 rfl rfl)
theorem dX1_steal_18 : decode cX1_steal 18 = .ok (.iaload, 1) := dk_46 (dk_at dksX1_steal_0 18 rfl rfl)
theorem dX1_steal_19 : decode cX1_steal 19 = .ok (.iconst (-1), 1) := dk_2 (dk_at dksX1_steal_0 19 rfl rfl)
theorem dX1_steal_20 : decode cX1_steal 20 = .ok (.if_icmp .ne 20, 3) := dk_160 0 20 (dk_at dksX1_steal_0 20 rfl rfl)
theorem dX1_steal_23 : decode cX1_steal 23 = .ok (.aload_n 0, 1) := dk_42 (dk_at dksX1_steal_0 23 rfl rfl)
theorem dX1_steal_24 : decode cX1_steal 24 = .ok (.getfield 10, 3) := dk_180 0 10 (dk_at dksX1_steal_1 0 rfl rfl)
theorem dX1_steal_27 : decode cX1_steal 27 = .ok (.getfield 160, 3) := dk_180 0 160 (dk_at dksX1_steal_1 3 rfl rfl)
theorem dX1_steal_30 : decode cX1_steal 30 = .ok (.iload_n 2, 1) := dk_28 (dk_at dksX1_steal_1 6 rfl rfl)
theorem dX1_steal_31 : decode cX1_steal 31 = .ok (.iaload, 1) := dk_46 (dk_at dksX1_steal_1 7 rfl rfl)
theorem dX1_steal_32 : decode cX1_steal 32 = .ok (.iconst (-1), 1) := dk_2 (dk_at dksX1_steal_1 8 rfl rfl)
theorem dX1_steal_33 : decode cX1_steal 33 = .ok (.if_icmp .eq 7, 3) := dk_159 0 7 (dk_at dksX1_steal_1 9 rfl rfl)
theorem dX1_steal_36 : decode cX1_steal 36 = .ok (.iconst 1, 1) := dk_4 (dk_at dksX1_steal_1 12 rfl rfl)
theorem dX1_steal_37 : decode cX1_steal 37 = .ok (.goto 4, 3) := dk_167 0 4 (dk_at dksX1_steal_1 13 rfl rfl)
theorem dX1_steal_40 : decode cX1_steal 40 = .ok (.iconst 0, 1) := dk_3 (dk_at dksX1_steal_1 16 rfl rfl)
theorem dX1_steal_41 : decode cX1_steal 41 = .ok (.invokestatic 451, 3) := dk_184 1 195 (dk_at dksX1_steal_1 17 rfl rfl)
theorem dX1_steal_44 : decode cX1_steal 44 = .ok (.aload_n 0, 1) := dk_42 (dk_at dksX1_steal_1 20 rfl rfl)
theorem dX1_steal_45 : decode cX1_steal 45 = .ok (.invokevirtual 454, 3) := dk_182 1 198 (dk_at dksX1_steal_1 21 rfl rfl)
theorem dX1_steal_48 : decode cX1_steal 48 = .ok (.aload_n 0, 1) := dk_42 (dk_at dksX1_steal_2 0 rfl rfl)
theorem dX1_steal_49 : decode cX1_steal 49 = .ok (.getfield 10, 3) := dk_180 0 10 (dk_at dksX1_steal_2 1 rfl rfl)
theorem dX1_steal_52 : decode cX1_steal 52 = .ok (.iload_n 1, 1) := dk_27 (dk_at dksX1_steal_2 4 rfl rfl)
theorem dX1_steal_53 : decode cX1_steal 53 = .ok (.iload_n 2, 1) := dk_28 (dk_at dksX1_steal_2 5 rfl rfl)
theorem dX1_steal_54 : decode cX1_steal 54 = .ok (.getstatic 466, 3) := dk_178 1 210 (dk_at dksX1_steal_2 6 rfl rfl)
theorem dX1_steal_57 : decode cX1_steal 57 = .ok (.invokevirtual 472, 3) := dk_182 1 216 (dk_at dksX1_steal_2 9 rfl rfl)
theorem dX1_steal_60 : decode cX1_steal 60 = .ok (.aload_n 0, 1) := dk_42 (dk_at dksX1_steal_2 12 rfl rfl)
theorem dX1_steal_61 : decode cX1_steal 61 = .ok (.getfield 10, 3) := dk_180 0 10 (dk_at dksX1_steal_2 13 rfl rfl)
theorem dX1_steal_64 : decode cX1_steal 64 = .ok (.getfield 120, 3) := dk_180 0 120 (dk_at dksX1_steal_2 16 rfl rfl)
theorem dX1_steal_67 : decode cX1_steal 67 = .ok (.iload_n 1, 1) := dk_27 (dk_at dksX1_steal_2 19 rfl rfl)
theorem dX1_steal_68 : decode cX1_steal 68 = .ok (.iaload, 1) := dk_46 (dk_at dksX1_steal_2 20 rfl rfl)
theorem dX1_steal_69 : decode cX1_steal 69 = .ok (.ireturn, 1) := dk_172 (dk_at dksX1_steal_2 21 rfl rfl)
abbrev cX1_change : ByteArray := prog_1_method_50_code
def yX1_change : MethodName := ⟨RX1, "change", "(II)I"⟩
def dkwX1_change_3 : List UInt8 := [28, 46, 79, 42, 180, 0, 10, 180, 0, 120, 28, 29, 79, 42, 180, 0, 10, 180, 0, 120, 27, 46, 172]
abbrev dktX1_change_3 : List UInt8 := dkwX1_change_3 ++ []
def dkwX1_change_2 : List UInt8 := [180, 0, 10, 180, 0, 120, 27, 46, 62, 42, 180, 0, 10, 180, 0, 120, 27, 42, 180, 0, 10, 180, 0, 120]
abbrev dktX1_change_2 : List UInt8 := dkwX1_change_2 ++ dktX1_change_3
def dkwX1_change_1 : List UInt8 := [180, 0, 120, 28, 46, 2, 159, 0, 7, 4, 167, 0, 4, 3, 184, 1, 195, 42, 182, 1, 198, 42]
abbrev dktX1_change_1 : List UInt8 := dkwX1_change_1 ++ dktX1_change_2
def dkwX1_change_0 : List UInt8 := [42, 27, 28, 182, 1, 188, 42, 180, 0, 10, 180, 0, 120, 27, 46, 2, 159, 0, 20, 42, 180, 0, 10]
abbrev dktX1_change_0 : List UInt8 := dkwX1_change_0 ++ dktX1_change_1
theorem dksX1_change_0 : cX1_change.data.toList.drop 0 = dktX1_change_0 := by decide +kernel
theorem dksX1_change_1 : cX1_change.data.toList.drop 23 = dktX1_change_1 := dk_seg dksX1_change_0 23 rfl rfl
theorem dksX1_change_2 : cX1_change.data.toList.drop 45 = dktX1_change_2 := dk_seg dksX1_change_1 22 rfl rfl
theorem dksX1_change_3 : cX1_change.data.toList.drop 69 = dktX1_change_3 := dk_seg dksX1_change_2 24 rfl rfl
theorem dX1_change_0 : decode cX1_change 0 = .ok (.aload_n 0, 1) := dk_42 (dk_at dksX1_change_0 0 rfl rfl)
theorem dX1_change_1 : decode cX1_change 1 = .ok (.iload_n 1, 1) := dk_27 (dk_at dksX1_change_0 1 rfl rfl)
theorem dX1_change_2 : decode cX1_change 2 = .ok (.iload_n 2, 1) := dk_28 (dk_at dksX1_change_0 2 rfl rfl)
theorem dX1_change_3 : decode cX1_change 3 = .ok (.invokevirtual 444, 3) := dk_182 1 188 (dk_at dksX1_change_0 3 rfl rfl)
theorem dX1_change_6 : decode cX1_change 6 = .ok (.aload_n 0, 1) := dk_42 (dk_at dksX1_change_0 6 rfl rfl)
theorem dX1_change_7 : decode cX1_change 7 = .ok (.getfield 10, 3) := dk_180 0 10 (dk_at dksX1_change_0 7 rfl rfl)
theorem dX1_change_10 : decode cX1_change 10 = .ok (.getfield 120, 3) := dk_180 0 120 (dk_at dksX1_change_0 10 rfl rfl)
theorem dX1_change_13 : decode cX1_change 13 = .ok (.iload_n 1, 1) := dk_27 (dk_at dksX1_change_0 13 rfl rfl)
theorem dX1_change_14 : decode cX1_change 14 = .ok (.iaload, 1) := dk_46 (dk_at dksX1_change_0 14 rfl rfl)
theorem dX1_change_15 : decode cX1_change 15 = .ok (.iconst (-1), 1) := dk_2 (dk_at dksX1_change_0 15 rfl rfl)
theorem dX1_change_16 : decode cX1_change 16 = .ok (.if_icmp .eq 20, 3) := dk_159 0 20 (dk_at dksX1_change_0 16 rfl rfl)
theorem dX1_change_19 : decode cX1_change 19 = .ok (.aload_n 0, 1) := dk_42 (dk_at dksX1_change_0 19 rfl rfl)
theorem dX1_change_20 : decode cX1_change 20 = .ok (.getfield 10, 3) := dk_180 0 10 (dk_at dksX1_change_0 20 rfl rfl)
theorem dX1_change_23 : decode cX1_change 23 = .ok (.getfield 120, 3) := dk_180 0 120 (dk_at dksX1_change_1 0 rfl rfl)
theorem dX1_change_26 : decode cX1_change 26 = .ok (.iload_n 2, 1) := dk_28 (dk_at dksX1_change_1 3 rfl rfl)
theorem dX1_change_27 : decode cX1_change 27 = .ok (.iaload, 1) := dk_46 (dk_at dksX1_change_1 4 rfl rfl)
theorem dX1_change_28 : decode cX1_change 28 = .ok (.iconst (-1), 1) := dk_2 (dk_at dksX1_change_1 5 rfl rfl)
theorem dX1_change_29 : decode cX1_change 29 = .ok (.if_icmp .eq 7, 3) := dk_159 0 7 (dk_at dksX1_change_1 6 rfl rfl)
theorem dX1_change_32 : decode cX1_change 32 = .ok (.iconst 1, 1) := dk_4 (dk_at dksX1_change_1 9 rfl rfl)
theorem dX1_change_33 : decode cX1_change 33 = .ok (.goto 4, 3) := dk_167 0 4 (dk_at dksX1_change_1 10 rfl rfl)
theorem dX1_change_36 : decode cX1_change 36 = .ok (.iconst 0, 1) := dk_3 (dk_at dksX1_change_1 13 rfl rfl)
theorem dX1_change_37 : decode cX1_change 37 = .ok (.invokestatic 451, 3) := dk_184 1 195 (dk_at dksX1_change_1 14 rfl rfl)
theorem dX1_change_40 : decode cX1_change 40 = .ok (.aload_n 0, 1) := dk_42 (dk_at dksX1_change_1 17 rfl rfl)
theorem dX1_change_41 : decode cX1_change 41 = .ok (.invokevirtual 454, 3) := dk_182 1 198 (dk_at dksX1_change_1 18 rfl rfl)
theorem dX1_change_44 : decode cX1_change 44 = .ok (.aload_n 0, 1) := dk_42 (dk_at dksX1_change_1 21 rfl rfl)
theorem dX1_change_45 : decode cX1_change 45 = .ok (.getfield 10, 3) := dk_180 0 10 (dk_at dksX1_change_2 0 rfl rfl)
theorem dX1_change_48 : decode cX1_change 48 = .ok (.getfield 120, 3) := dk_180 0 120 (dk_at dksX1_change_2 3 rfl rfl)
theorem dX1_change_51 : decode cX1_change 51 = .ok (.iload_n 1, 1) := dk_27 (dk_at dksX1_change_2 6 rfl rfl)
theorem dX1_change_52 : decode cX1_change 52 = .ok (.iaload, 1) := dk_46 (dk_at dksX1_change_2 7 rfl rfl)
theorem dX1_change_53 : decode cX1_change 53 = .ok (.istore_n 3, 1) := dk_62 (dk_at dksX1_change_2 8 rfl rfl)
theorem dX1_change_54 : decode cX1_change 54 = .ok (.aload_n 0, 1) := dk_42 (dk_at dksX1_change_2 9 rfl rfl)
theorem dX1_change_55 : decode cX1_change 55 = .ok (.getfield 10, 3) := dk_180 0 10 (dk_at dksX1_change_2 10 rfl rfl)
theorem dX1_change_58 : decode cX1_change 58 = .ok (.getfield 120, 3) := dk_180 0 120 (dk_at dksX1_change_2 13 rfl rfl)
theorem dX1_change_61 : decode cX1_change 61 = .ok (.iload_n 1, 1) := dk_27 (dk_at dksX1_change_2 16 rfl rfl)
theorem dX1_change_62 : decode cX1_change 62 = .ok (.aload_n 0, 1) := dk_42 (dk_at dksX1_change_2 17 rfl rfl)
theorem dX1_change_63 : decode cX1_change 63 = .ok (.getfield 10, 3) := dk_180 0 10 (dk_at dksX1_change_2 18 rfl rfl)
theorem dX1_change_66 : decode cX1_change 66 = .ok (.getfield 120, 3) := dk_180 0 120 (dk_at dksX1_change_2 21 rfl rfl)
theorem dX1_change_69 : decode cX1_change 69 = .ok (.iload_n 2, 1) := dk_28 (dk_at dksX1_change_3 0 rfl rfl)
theorem dX1_change_70 : decode cX1_change 70 = .ok (.iaload, 1) := dk_46 (dk_at dksX1_change_3 1 rfl rfl)
theorem dX1_change_71 : decode cX1_change 71 = .ok (.iastore, 1) := dk_79 (dk_at dksX1_change_3 2 rfl rfl)
theorem dX1_change_72 : decode cX1_change 72 = .ok (.aload_n 0, 1) := dk_42 (dk_at dksX1_change_3 3 rfl rfl)
theorem dX1_change_73 : decode cX1_change 73 = .ok (.getfield 10, 3) := dk_180 0 10 (dk_at dksX1_change_3 4 rfl rfl)
theorem dX1_change_76 : decode cX1_change 76 = .ok (.getfield 120, 3) := dk_180 0 120 (dk_at dksX1_change_3 7 rfl rfl)
theorem dX1_change_79 : decode cX1_change 79 = .ok (.iload_n 2, 1) := dk_28 (dk_at dksX1_change_3 10 rfl rfl)
theorem dX1_change_80 : decode cX1_change 80 = .ok (.iload_n 3, 1) := dk_29 (dk_at dksX1_change_3 11 rfl rfl)
theorem dX1_change_81 : decode cX1_change 81 = .ok (.iastore, 1) := dk_79 (dk_at dksX1_change_3 12 rfl rfl)
theorem dX1_change_82 : decode cX1_change 82 = .ok (.aload_n 0, 1) := dk_42 (dk_at dksX1_change_3 13 rfl rfl)
theorem dX1_change_83 : decode cX1_change 83 = .ok (.getfield 10, 3) := dk_180 0 10 (dk_at dksX1_change_3 14 rfl rfl)
theorem dX1_change_86 : decode cX1_change 86 = .ok (.getfield 120, 3) := dk_180 0 120 (dk_at dksX1_change_3 17 rfl rfl)
theorem dX1_change_89 : decode cX1_change 89 = .ok (.iload_n 1, 1) := dk_27 (dk_at dksX1_change_3 20 rfl rfl)
theorem dX1_change_90 : decode cX1_change 90 = .ok (.iaload, 1) := dk_46 (dk_at dksX1_change_3 21 rfl rfl)
theorem dX1_change_91 : decode cX1_change 91 = .ok (.ireturn, 1) := dk_172 (dk_at dksX1_change_3 22 rfl rfl)
abbrev cX1_shave : ByteArray := prog_1_method_51_code
def yX1_shave : MethodName := ⟨RX1, "shave", "(II)I"⟩
def dkwX1_shave_2 : List UInt8 := [42, 180, 0, 10, 180, 0, 109, 27, 46, 184, 1, 121, 172]
abbrev dktX1_shave_2 : List UInt8 := dkwX1_shave_2 ++ []
def dkwX1_shave_1 : List UInt8 := [184, 1, 195, 42, 182, 1, 198, 42, 180, 0, 10, 180, 0, 109, 27, 92, 46, 4, 28, 120, 2, 130, 126, 79]
abbrev dktX1_shave_1 : List UInt8 := dkwX1_shave_1 ++ dktX1_shave_2
def dkwX1_shave_0 : List UInt8 := [42, 27, 182, 1, 158, 28, 16, 8, 184, 1, 155, 42, 180, 0, 10, 180, 0, 109, 27, 46, 28, 184, 1, 167]
abbrev dktX1_shave_0 : List UInt8 := dkwX1_shave_0 ++ dktX1_shave_1
theorem dksX1_shave_0 : cX1_shave.data.toList.drop 0 = dktX1_shave_0 := by decide +kernel
theorem dksX1_shave_1 : cX1_shave.data.toList.drop 24 = dktX1_shave_1 := dk_seg dksX1_shave_0 24 rfl rfl
theorem dksX1_shave_2 : cX1_shave.data.toList.drop 48 = dktX1_shave_2 := dk_seg dksX1_shave_1 24 rfl rfl
theorem dX1_shave_0 : decode cX1_shave 0 = .ok (.aload_n 0, 1) := dk_42 (dk_at dksX1_shave_0 0 rfl rfl)
theorem dX1_shave_1 : decode cX1_shave 1 = .ok (.iload_n 1, 1) := dk_27 (dk_at dksX1_shave_0 1 rfl rfl)
theorem dX1_shave_2 : decode cX1_shave 2 = .ok (.invokevirtual 414, 3) := dk_182 1 158 (dk_at dksX1_shave_0 2 rfl rfl)
theorem dX1_shave_5 : decode cX1_shave 5 = .ok (.iload_n 2, 1) := dk_28 (dk_at dksX1_shave_0 5 rfl rfl)
theorem dX1_shave_6 : decode cX1_shave 6 = .ok (.bipush 8, 2) := dk_16 8 (dk_at dksX1_shave_0 6 rfl rfl)
theorem dX1_shave_8 : decode cX1_shave 8 = .ok (.invokestatic 411, 3) := dk_184 1 155 (dk_at dksX1_shave_0 8 rfl rfl)
theorem dX1_shave_11 : decode cX1_shave 11 = .ok (.aload_n 0, 1) := dk_42 (dk_at dksX1_shave_0 11 rfl rfl)
theorem dX1_shave_12 : decode cX1_shave 12 = .ok (.getfield 10, 3) := dk_180 0 10 (dk_at dksX1_shave_0 12 rfl rfl)
theorem dX1_shave_15 : decode cX1_shave 15 = .ok (.getfield 109, 3) := dk_180 0 109 (dk_at dksX1_shave_0 15 rfl rfl)
theorem dX1_shave_18 : decode cX1_shave 18 = .ok (.iload_n 1, 1) := dk_27 (dk_at dksX1_shave_0 18 rfl rfl)
theorem dX1_shave_19 : decode cX1_shave 19 = .ok (.iaload, 1) := dk_46 (dk_at dksX1_shave_0 19 rfl rfl)
theorem dX1_shave_20 : decode cX1_shave 20 = .ok (.iload_n 2, 1) := dk_28 (dk_at dksX1_shave_0 20 rfl rfl)
theorem dX1_shave_21 : decode cX1_shave 21 = .ok (.invokestatic 423, 3) := dk_184 1 167 (dk_at dksX1_shave_0 21 rfl rfl)
theorem dX1_shave_24 : decode cX1_shave 24 = .ok (.invokestatic 451, 3) := dk_184 1 195 (dk_at dksX1_shave_1 0 rfl rfl)
theorem dX1_shave_27 : decode cX1_shave 27 = .ok (.aload_n 0, 1) := dk_42 (dk_at dksX1_shave_1 3 rfl rfl)
theorem dX1_shave_28 : decode cX1_shave 28 = .ok (.invokevirtual 454, 3) := dk_182 1 198 (dk_at dksX1_shave_1 4 rfl rfl)
theorem dX1_shave_31 : decode cX1_shave 31 = .ok (.aload_n 0, 1) := dk_42 (dk_at dksX1_shave_1 7 rfl rfl)
theorem dX1_shave_32 : decode cX1_shave 32 = .ok (.getfield 10, 3) := dk_180 0 10 (dk_at dksX1_shave_1 8 rfl rfl)
theorem dX1_shave_35 : decode cX1_shave 35 = .ok (.getfield 109, 3) := dk_180 0 109 (dk_at dksX1_shave_1 11 rfl rfl)
theorem dX1_shave_38 : decode cX1_shave 38 = .ok (.iload_n 1, 1) := dk_27 (dk_at dksX1_shave_1 14 rfl rfl)
theorem dX1_shave_39 : decode cX1_shave 39 = .ok (.dup2, 1) := dk_92 (dk_at dksX1_shave_1 15 rfl rfl)
theorem dX1_shave_40 : decode cX1_shave 40 = .ok (.iaload, 1) := dk_46 (dk_at dksX1_shave_1 16 rfl rfl)
theorem dX1_shave_41 : decode cX1_shave 41 = .ok (.iconst 1, 1) := dk_4 (dk_at dksX1_shave_1 17 rfl rfl)
theorem dX1_shave_42 : decode cX1_shave 42 = .ok (.iload_n 2, 1) := dk_28 (dk_at dksX1_shave_1 18 rfl rfl)
theorem dX1_shave_43 : decode cX1_shave 43 = .ok (.ishl, 1) := dk_120 (dk_at dksX1_shave_1 19 rfl rfl)
theorem dX1_shave_44 : decode cX1_shave 44 = .ok (.iconst (-1), 1) := dk_2 (dk_at dksX1_shave_1 20 rfl rfl)
theorem dX1_shave_45 : decode cX1_shave 45 = .ok (.ixor, 1) := dk_130 (dk_at dksX1_shave_1 21 rfl rfl)
theorem dX1_shave_46 : decode cX1_shave 46 = .ok (.iand, 1) := dk_126 (dk_at dksX1_shave_1 22 rfl rfl)
theorem dX1_shave_47 : decode cX1_shave 47 = .ok (.iastore, 1) := dk_79 (dk_at dksX1_shave_1 23 rfl rfl)
theorem dX1_shave_48 : decode cX1_shave 48 = .ok (.aload_n 0, 1) := dk_42 (dk_at dksX1_shave_2 0 rfl rfl)
theorem dX1_shave_49 : decode cX1_shave 49 = .ok (.getfield 10, 3) := dk_180 0 10 (dk_at dksX1_shave_2 1 rfl rfl)
theorem dX1_shave_52 : decode cX1_shave 52 = .ok (.getfield 109, 3) := dk_180 0 109 (dk_at dksX1_shave_2 4 rfl rfl)
theorem dX1_shave_55 : decode cX1_shave 55 = .ok (.iload_n 1, 1) := dk_27 (dk_at dksX1_shave_2 7 rfl rfl)
theorem dX1_shave_56 : decode cX1_shave 56 = .ok (.iaload, 1) := dk_46 (dk_at dksX1_shave_2 8 rfl rfl)
theorem dX1_shave_57 : decode cX1_shave 57 = .ok (.invokestatic 377, 3) := dk_184 1 121 (dk_at dksX1_shave_2 9 rfl rfl)
theorem dX1_shave_60 : decode cX1_shave 60 = .ok (.ireturn, 1) := dk_172 (dk_at dksX1_shave_2 12 rfl rfl)
abbrev cX1_graft : ByteArray := prog_1_method_52_code
def yX1_graft : MethodName := ⟨RX1, "graft", "(III)I"⟩
def dkwX1_graft_4 : List UInt8 := [180, 0, 109, 28, 92, 46, 4, 29, 120, 128, 79, 42, 180, 0, 10, 180, 0, 109, 28, 46, 184, 1, 121, 172]
abbrev dktX1_graft_4 : List UInt8 := dkwX1_graft_4 ++ []
def dkwX1_graft_3 : List UInt8 := [182, 1, 198, 42, 180, 0, 10, 180, 0, 109, 27, 92, 46, 4, 29, 120, 2, 130, 126, 79, 42, 180, 0, 10]
abbrev dktX1_graft_3 : List UInt8 := dkwX1_graft_3 ++ dktX1_graft_4
def dkwX1_graft_2 : List UInt8 := [180, 0, 10, 180, 0, 109, 28, 46, 29, 184, 1, 167, 154, 0, 7, 4, 167, 0, 4, 3, 184, 1, 195, 42]
abbrev dktX1_graft_2 : List UInt8 := dkwX1_graft_2 ++ dktX1_graft_3
def dkwX1_graft_1 : List UInt8 := [167, 0, 4, 3, 184, 1, 161, 42, 180, 0, 10, 180, 0, 109, 27, 46, 29, 184, 1, 167, 153, 0, 23, 42]
abbrev dktX1_graft_1 : List UInt8 := dkwX1_graft_1 ++ dktX1_graft_2
def dkwX1_graft_0 : List UInt8 := [42, 27, 182, 1, 158, 42, 28, 182, 1, 158, 29, 16, 8, 184, 1, 155, 27, 28, 159, 0, 7, 4]
abbrev dktX1_graft_0 : List UInt8 := dkwX1_graft_0 ++ dktX1_graft_1
theorem dksX1_graft_0 : cX1_graft.data.toList.drop 0 = dktX1_graft_0 := by decide +kernel
theorem dksX1_graft_1 : cX1_graft.data.toList.drop 22 = dktX1_graft_1 := dk_seg dksX1_graft_0 22 rfl rfl
theorem dksX1_graft_2 : cX1_graft.data.toList.drop 46 = dktX1_graft_2 := dk_seg dksX1_graft_1 24 rfl rfl
theorem dksX1_graft_3 : cX1_graft.data.toList.drop 70 = dktX1_graft_3 := dk_seg dksX1_graft_2 24 rfl rfl
theorem dksX1_graft_4 : cX1_graft.data.toList.drop 94 = dktX1_graft_4 := dk_seg dksX1_graft_3 24 rfl rfl
theorem dX1_graft_0 : decode cX1_graft 0 = .ok (.aload_n 0, 1) := dk_42 (dk_at dksX1_graft_0 0 rfl rfl)
theorem dX1_graft_1 : decode cX1_graft 1 = .ok (.iload_n 1, 1) := dk_27 (dk_at dksX1_graft_0 1 rfl rfl)
theorem dX1_graft_2 : decode cX1_graft 2 = .ok (.invokevirtual 414, 3) := dk_182 1 158 (dk_at dksX1_graft_0 2 rfl rfl)
theorem dX1_graft_5 : decode cX1_graft 5 = .ok (.aload_n 0, 1) := dk_42 (dk_at dksX1_graft_0 5 rfl rfl)
theorem dX1_graft_6 : decode cX1_graft 6 = .ok (.iload_n 2, 1) := dk_28 (dk_at dksX1_graft_0 6 rfl rfl)
theorem dX1_graft_7 : decode cX1_graft 7 = .ok (.invokevirtual 414, 3) := dk_182 1 158 (dk_at dksX1_graft_0 7 rfl rfl)
theorem dX1_graft_10 : decode cX1_graft 10 = .ok (.iload_n 3, 1) := dk_29 (dk_at dksX1_graft_0 10 rfl rfl)
theorem dX1_graft_11 : decode cX1_graft 11 = .ok (.bipush 8, 2) := dk_16 8 (dk_at dksX1_graft_0 11 rfl rfl)
theorem dX1_graft_13 : decode cX1_graft 13 = .ok (.invokestatic 411, 3) := dk_184 1 155 (dk_at dksX1_graft_0 13 rfl rfl)
theorem dX1_graft_16 : decode cX1_graft 16 = .ok (.iload_n 1, 1) := dk_27 (dk_at dksX1_graft_0 16 rfl rfl)
theorem dX1_graft_17 : decode cX1_graft 17 = .ok (.iload_n 2, 1) := dk_28 (dk_at dksX1_graft_0 17 rfl rfl)
theorem dX1_graft_18 : decode cX1_graft 18 = .ok (.if_icmp .eq 7, 3) := dk_159 0 7 (dk_at dksX1_graft_0 18 rfl rfl)
theorem dX1_graft_21 : decode cX1_graft 21 = .ok (.iconst 1, 1) := dk_4 (dk_at dksX1_graft_0 21 rfl rfl)
theorem dX1_graft_22 : decode cX1_graft 22 = .ok (.goto 4, 3) := dk_167 0 4 (dk_at dksX1_graft_1 0 rfl rfl)
theorem dX1_graft_25 : decode cX1_graft 25 = .ok (.iconst 0, 1) := dk_3 (dk_at dksX1_graft_1 3 rfl rfl)
theorem dX1_graft_26 : decode cX1_graft 26 = .ok (.invokestatic 417, 3) := dk_184 1 161 (dk_at dksX1_graft_1 4 rfl rfl)
theorem dX1_graft_29 : decode cX1_graft 29 = .ok (.aload_n 0, 1) := dk_42 (dk_at dksX1_graft_1 7 rfl rfl)
theorem dX1_graft_30 : decode cX1_graft 30 = .ok (.getfield 10, 3) := dk_180 0 10 (dk_at dksX1_graft_1 8 rfl rfl)
theorem dX1_graft_33 : decode cX1_graft 33 = .ok (.getfield 109, 3) := dk_180 0 109 (dk_at dksX1_graft_1 11 rfl rfl)
theorem dX1_graft_36 : decode cX1_graft 36 = .ok (.iload_n 1, 1) := dk_27 (dk_at dksX1_graft_1 14 rfl rfl)
theorem dX1_graft_37 : decode cX1_graft 37 = .ok (.iaload, 1) := dk_46 (dk_at dksX1_graft_1 15 rfl rfl)
theorem dX1_graft_38 : decode cX1_graft 38 = .ok (.iload_n 3, 1) := dk_29 (dk_at dksX1_graft_1 16 rfl rfl)
theorem dX1_graft_39 : decode cX1_graft 39 = .ok (.invokestatic 423, 3) := dk_184 1 167 (dk_at dksX1_graft_1 17 rfl rfl)
theorem dX1_graft_42 : decode cX1_graft 42 = .ok (.ifCond .eq 23, 3) := dk_153 0 23 (dk_at dksX1_graft_1 20 rfl rfl)
theorem dX1_graft_45 : decode cX1_graft 45 = .ok (.aload_n 0, 1) := dk_42 (dk_at dksX1_graft_1 23 rfl rfl)
theorem dX1_graft_46 : decode cX1_graft 46 = .ok (.getfield 10, 3) := dk_180 0 10 (dk_at dksX1_graft_2 0 rfl rfl)
theorem dX1_graft_49 : decode cX1_graft 49 = .ok (.getfield 109, 3) := dk_180 0 109 (dk_at dksX1_graft_2 3 rfl rfl)
theorem dX1_graft_52 : decode cX1_graft 52 = .ok (.iload_n 2, 1) := dk_28 (dk_at dksX1_graft_2 6 rfl rfl)
theorem dX1_graft_53 : decode cX1_graft 53 = .ok (.iaload, 1) := dk_46 (dk_at dksX1_graft_2 7 rfl rfl)
theorem dX1_graft_54 : decode cX1_graft 54 = .ok (.iload_n 3, 1) := dk_29 (dk_at dksX1_graft_2 8 rfl rfl)
theorem dX1_graft_55 : decode cX1_graft 55 = .ok (.invokestatic 423, 3) := dk_184 1 167 (dk_at dksX1_graft_2 9 rfl rfl)
theorem dX1_graft_58 : decode cX1_graft 58 = .ok (.ifCond .ne 7, 3) := dk_154 0 7 (dk_at dksX1_graft_2 12 rfl rfl)
theorem dX1_graft_61 : decode cX1_graft 61 = .ok (.iconst 1, 1) := dk_4 (dk_at dksX1_graft_2 15 rfl rfl)
theorem dX1_graft_62 : decode cX1_graft 62 = .ok (.goto 4, 3) := dk_167 0 4 (dk_at dksX1_graft_2 16 rfl rfl)
theorem dX1_graft_65 : decode cX1_graft 65 = .ok (.iconst 0, 1) := dk_3 (dk_at dksX1_graft_2 19 rfl rfl)
theorem dX1_graft_66 : decode cX1_graft 66 = .ok (.invokestatic 451, 3) := dk_184 1 195 (dk_at dksX1_graft_2 20 rfl rfl)
theorem dX1_graft_69 : decode cX1_graft 69 = .ok (.aload_n 0, 1) := dk_42 (dk_at dksX1_graft_2 23 rfl rfl)
theorem dX1_graft_70 : decode cX1_graft 70 = .ok (.invokevirtual 454, 3) := dk_182 1 198 (dk_at dksX1_graft_3 0 rfl rfl)
theorem dX1_graft_73 : decode cX1_graft 73 = .ok (.aload_n 0, 1) := dk_42 (dk_at dksX1_graft_3 3 rfl rfl)
theorem dX1_graft_74 : decode cX1_graft 74 = .ok (.getfield 10, 3) := dk_180 0 10 (dk_at dksX1_graft_3 4 rfl rfl)
theorem dX1_graft_77 : decode cX1_graft 77 = .ok (.getfield 109, 3) := dk_180 0 109 (dk_at dksX1_graft_3 7 rfl rfl)
theorem dX1_graft_80 : decode cX1_graft 80 = .ok (.iload_n 1, 1) := dk_27 (dk_at dksX1_graft_3 10 rfl rfl)
theorem dX1_graft_81 : decode cX1_graft 81 = .ok (.dup2, 1) := dk_92 (dk_at dksX1_graft_3 11 rfl rfl)
theorem dX1_graft_82 : decode cX1_graft 82 = .ok (.iaload, 1) := dk_46 (dk_at dksX1_graft_3 12 rfl rfl)
theorem dX1_graft_83 : decode cX1_graft 83 = .ok (.iconst 1, 1) := dk_4 (dk_at dksX1_graft_3 13 rfl rfl)
theorem dX1_graft_84 : decode cX1_graft 84 = .ok (.iload_n 3, 1) := dk_29 (dk_at dksX1_graft_3 14 rfl rfl)
theorem dX1_graft_85 : decode cX1_graft 85 = .ok (.ishl, 1) := dk_120 (dk_at dksX1_graft_3 15 rfl rfl)
theorem dX1_graft_86 : decode cX1_graft 86 = .ok (.iconst (-1), 1) := dk_2 (dk_at dksX1_graft_3 16 rfl rfl)
theorem dX1_graft_87 : decode cX1_graft 87 = .ok (.ixor, 1) := dk_130 (dk_at dksX1_graft_3 17 rfl rfl)
theorem dX1_graft_88 : decode cX1_graft 88 = .ok (.iand, 1) := dk_126 (dk_at dksX1_graft_3 18 rfl rfl)
theorem dX1_graft_89 : decode cX1_graft 89 = .ok (.iastore, 1) := dk_79 (dk_at dksX1_graft_3 19 rfl rfl)
theorem dX1_graft_90 : decode cX1_graft 90 = .ok (.aload_n 0, 1) := dk_42 (dk_at dksX1_graft_3 20 rfl rfl)
theorem dX1_graft_91 : decode cX1_graft 91 = .ok (.getfield 10, 3) := dk_180 0 10 (dk_at dksX1_graft_3 21 rfl rfl)
theorem dX1_graft_94 : decode cX1_graft 94 = .ok (.getfield 109, 3) := dk_180 0 109 (dk_at dksX1_graft_4 0 rfl rfl)
theorem dX1_graft_97 : decode cX1_graft 97 = .ok (.iload_n 2, 1) := dk_28 (dk_at dksX1_graft_4 3 rfl rfl)
theorem dX1_graft_98 : decode cX1_graft 98 = .ok (.dup2, 1) := dk_92 (dk_at dksX1_graft_4 4 rfl rfl)
theorem dX1_graft_99 : decode cX1_graft 99 = .ok (.iaload, 1) := dk_46 (dk_at dksX1_graft_4 5 rfl rfl)
theorem dX1_graft_100 : decode cX1_graft 100 = .ok (.iconst 1, 1) := dk_4 (dk_at dksX1_graft_4 6 rfl rfl)
theorem dX1_graft_101 : decode cX1_graft 101 = .ok (.iload_n 3, 1) := dk_29 (dk_at dksX1_graft_4 7 rfl rfl)
theorem dX1_graft_102 : decode cX1_graft 102 = .ok (.ishl, 1) := dk_120 (dk_at dksX1_graft_4 8 rfl rfl)
theorem dX1_graft_103 : decode cX1_graft 103 = .ok (.ior, 1) := dk_128 (dk_at dksX1_graft_4 9 rfl rfl)
theorem dX1_graft_104 : decode cX1_graft 104 = .ok (.iastore, 1) := dk_79 (dk_at dksX1_graft_4 10 rfl rfl)
theorem dX1_graft_105 : decode cX1_graft 105 = .ok (.aload_n 0, 1) := dk_42 (dk_at dksX1_graft_4 11 rfl rfl)
theorem dX1_graft_106 : decode cX1_graft 106 = .ok (.getfield 10, 3) := dk_180 0 10 (dk_at dksX1_graft_4 12 rfl rfl)
theorem dX1_graft_109 : decode cX1_graft 109 = .ok (.getfield 109, 3) := dk_180 0 109 (dk_at dksX1_graft_4 15 rfl rfl)
theorem dX1_graft_112 : decode cX1_graft 112 = .ok (.iload_n 2, 1) := dk_28 (dk_at dksX1_graft_4 18 rfl rfl)
theorem dX1_graft_113 : decode cX1_graft 113 = .ok (.iaload, 1) := dk_46 (dk_at dksX1_graft_4 19 rfl rfl)
theorem dX1_graft_114 : decode cX1_graft 114 = .ok (.invokestatic 377, 3) := dk_184 1 121 (dk_at dksX1_graft_4 20 rfl rfl)
theorem dX1_graft_117 : decode cX1_graft 117 = .ok (.ireturn, 1) := dk_172 (dk_at dksX1_graft_4 23 rfl rfl)
abbrev cX1_meet : ByteArray := prog_1_method_53_code
def yX1_meet : MethodName := ⟨RX1, "meet", "(II)I"⟩
def dkwX1_meet_1 : List UInt8 := [180, 0, 129, 27, 46, 42, 180, 0, 10, 180, 0, 129, 28, 46, 128, 172]
abbrev dktX1_meet_1 : List UInt8 := dkwX1_meet_1 ++ []
def dkwX1_meet_0 : List UInt8 := [42, 27, 28, 182, 1, 188, 42, 182, 1, 198, 42, 180, 0, 10, 27, 28, 182, 1, 220, 42, 180, 0, 10]
abbrev dktX1_meet_0 : List UInt8 := dkwX1_meet_0 ++ dktX1_meet_1
theorem dksX1_meet_0 : cX1_meet.data.toList.drop 0 = dktX1_meet_0 := by decide +kernel
theorem dksX1_meet_1 : cX1_meet.data.toList.drop 23 = dktX1_meet_1 := dk_seg dksX1_meet_0 23 rfl rfl
theorem dX1_meet_0 : decode cX1_meet 0 = .ok (.aload_n 0, 1) := dk_42 (dk_at dksX1_meet_0 0 rfl rfl)
theorem dX1_meet_1 : decode cX1_meet 1 = .ok (.iload_n 1, 1) := dk_27 (dk_at dksX1_meet_0 1 rfl rfl)
theorem dX1_meet_2 : decode cX1_meet 2 = .ok (.iload_n 2, 1) := dk_28 (dk_at dksX1_meet_0 2 rfl rfl)
theorem dX1_meet_3 : decode cX1_meet 3 = .ok (.invokevirtual 444, 3) := dk_182 1 188 (dk_at dksX1_meet_0 3 rfl rfl)
theorem dX1_meet_6 : decode cX1_meet 6 = .ok (.aload_n 0, 1) := dk_42 (dk_at dksX1_meet_0 6 rfl rfl)
theorem dX1_meet_7 : decode cX1_meet 7 = .ok (.invokevirtual 454, 3) := dk_182 1 198 (dk_at dksX1_meet_0 7 rfl rfl)
theorem dX1_meet_10 : decode cX1_meet 10 = .ok (.aload_n 0, 1) := dk_42 (dk_at dksX1_meet_0 10 rfl rfl)
theorem dX1_meet_11 : decode cX1_meet 11 = .ok (.getfield 10, 3) := dk_180 0 10 (dk_at dksX1_meet_0 11 rfl rfl)
theorem dX1_meet_14 : decode cX1_meet 14 = .ok (.iload_n 1, 1) := dk_27 (dk_at dksX1_meet_0 14 rfl rfl)
theorem dX1_meet_15 : decode cX1_meet 15 = .ok (.iload_n 2, 1) := dk_28 (dk_at dksX1_meet_0 15 rfl rfl)
theorem dX1_meet_16 : decode cX1_meet 16 = .ok (.invokevirtual 476, 3) := dk_182 1 220 (dk_at dksX1_meet_0 16 rfl rfl)
theorem dX1_meet_19 : decode cX1_meet 19 = .ok (.aload_n 0, 1) := dk_42 (dk_at dksX1_meet_0 19 rfl rfl)
theorem dX1_meet_20 : decode cX1_meet 20 = .ok (.getfield 10, 3) := dk_180 0 10 (dk_at dksX1_meet_0 20 rfl rfl)
theorem dX1_meet_23 : decode cX1_meet 23 = .ok (.getfield 129, 3) := dk_180 0 129 (dk_at dksX1_meet_1 0 rfl rfl)
theorem dX1_meet_26 : decode cX1_meet 26 = .ok (.iload_n 1, 1) := dk_27 (dk_at dksX1_meet_1 3 rfl rfl)
theorem dX1_meet_27 : decode cX1_meet 27 = .ok (.iaload, 1) := dk_46 (dk_at dksX1_meet_1 4 rfl rfl)
theorem dX1_meet_28 : decode cX1_meet 28 = .ok (.aload_n 0, 1) := dk_42 (dk_at dksX1_meet_1 5 rfl rfl)
theorem dX1_meet_29 : decode cX1_meet 29 = .ok (.getfield 10, 3) := dk_180 0 10 (dk_at dksX1_meet_1 6 rfl rfl)
theorem dX1_meet_32 : decode cX1_meet 32 = .ok (.getfield 129, 3) := dk_180 0 129 (dk_at dksX1_meet_1 9 rfl rfl)
theorem dX1_meet_35 : decode cX1_meet 35 = .ok (.iload_n 2, 1) := dk_28 (dk_at dksX1_meet_1 12 rfl rfl)
theorem dX1_meet_36 : decode cX1_meet 36 = .ok (.iaload, 1) := dk_46 (dk_at dksX1_meet_1 13 rfl rfl)
theorem dX1_meet_37 : decode cX1_meet 37 = .ok (.ior, 1) := dk_128 (dk_at dksX1_meet_1 14 rfl rfl)
theorem dX1_meet_38 : decode cX1_meet 38 = .ok (.ireturn, 1) := dk_172 (dk_at dksX1_meet_1 15 rfl rfl)
abbrev cX1_hours : ByteArray := prog_1_method_58_code
def yX1_hours : MethodName := ⟨RX1, "hours", "(I)I"⟩
def dkwX1_hours_1 : List UInt8 := [42, 42, 180, 0, 10, 182, 1, 249, 96, 61, 132, 3, 1, 167, 255, 237, 28, 172]
abbrev dktX1_hours_1 : List UInt8 := dkwX1_hours_1 ++ []
def dkwX1_hours_0 : List UInt8 := [27, 4, 16, 50, 184, 0, 91, 184, 1, 161, 42, 182, 1, 198, 3, 61, 3, 62, 29, 27, 162, 0, 20, 28]
abbrev dktX1_hours_0 : List UInt8 := dkwX1_hours_0 ++ dktX1_hours_1
theorem dksX1_hours_0 : cX1_hours.data.toList.drop 0 = dktX1_hours_0 := by decide +kernel
theorem dksX1_hours_1 : cX1_hours.data.toList.drop 24 = dktX1_hours_1 := dk_seg dksX1_hours_0 24 rfl rfl
theorem dX1_hours_0 : decode cX1_hours 0 = .ok (.iload_n 1, 1) := dk_27 (dk_at dksX1_hours_0 0 rfl rfl)
theorem dX1_hours_1 : decode cX1_hours 1 = .ok (.iconst 1, 1) := dk_4 (dk_at dksX1_hours_0 1 rfl rfl)
theorem dX1_hours_2 : decode cX1_hours 2 = .ok (.bipush 50, 2) := dk_16 50 (dk_at dksX1_hours_0 2 rfl rfl)
theorem dX1_hours_4 : decode cX1_hours 4 = .ok (.invokestatic 91, 3) := dk_184 0 91 (dk_at dksX1_hours_0 4 rfl rfl)
theorem dX1_hours_7 : decode cX1_hours 7 = .ok (.invokestatic 417, 3) := dk_184 1 161 (dk_at dksX1_hours_0 7 rfl rfl)
theorem dX1_hours_10 : decode cX1_hours 10 = .ok (.aload_n 0, 1) := dk_42 (dk_at dksX1_hours_0 10 rfl rfl)
theorem dX1_hours_11 : decode cX1_hours 11 = .ok (.invokevirtual 454, 3) := dk_182 1 198 (dk_at dksX1_hours_0 11 rfl rfl)
theorem dX1_hours_14 : decode cX1_hours 14 = .ok (.iconst 0, 1) := dk_3 (dk_at dksX1_hours_0 14 rfl rfl)
theorem dX1_hours_15 : decode cX1_hours 15 = .ok (.istore_n 2, 1) := dk_61 (dk_at dksX1_hours_0 15 rfl rfl)
theorem dX1_hours_16 : decode cX1_hours 16 = .ok (.iconst 0, 1) := dk_3 (dk_at dksX1_hours_0 16 rfl rfl)
theorem dX1_hours_17 : decode cX1_hours 17 = .ok (.istore_n 3, 1) := dk_62 (dk_at dksX1_hours_0 17 rfl rfl)
theorem dX1_hours_18 : decode cX1_hours 18 = .ok (.iload_n 3, 1) := dk_29 (dk_at dksX1_hours_0 18 rfl rfl)
theorem dX1_hours_19 : decode cX1_hours 19 = .ok (.iload_n 1, 1) := dk_27 (dk_at dksX1_hours_0 19 rfl rfl)
theorem dX1_hours_20 : decode cX1_hours 20 = .ok (.if_icmp .ge 20, 3) := dk_162 0 20 (dk_at dksX1_hours_0 20 rfl rfl)
theorem dX1_hours_23 : decode cX1_hours 23 = .ok (.iload_n 2, 1) := dk_28 (dk_at dksX1_hours_0 23 rfl rfl)
theorem dX1_hours_24 : decode cX1_hours 24 = .ok (.aload_n 0, 1) := dk_42 (dk_at dksX1_hours_1 0 rfl rfl)
theorem dX1_hours_25 : decode cX1_hours 25 = .ok (.aload_n 0, 1) := dk_42 (dk_at dksX1_hours_1 1 rfl rfl)
theorem dX1_hours_26 : decode cX1_hours 26 = .ok (.getfield 10, 3) := dk_180 0 10 (dk_at dksX1_hours_1 2 rfl rfl)
theorem dX1_hours_29 : decode cX1_hours 29 = .ok (.invokevirtual 505, 3) := dk_182 1 249 (dk_at dksX1_hours_1 5 rfl rfl)
theorem dX1_hours_32 : decode cX1_hours 32 = .ok (.iadd, 1) := dk_96 (dk_at dksX1_hours_1 8 rfl rfl)
theorem dX1_hours_33 : decode cX1_hours 33 = .ok (.istore_n 2, 1) := dk_61 (dk_at dksX1_hours_1 9 rfl rfl)
theorem dX1_hours_34 : decode cX1_hours 34 = .ok (.iinc 3 1, 3) := dk_132 3 1 (dk_at dksX1_hours_1 10 rfl rfl)
theorem dX1_hours_37 : decode cX1_hours 37 = .ok (.goto (-19), 3) := dk_167 255 237 (dk_at dksX1_hours_1 13 rfl rfl)
theorem dX1_hours_40 : decode cX1_hours 40 = .ok (.iload_n 2, 1) := dk_28 (dk_at dksX1_hours_1 16 rfl rfl)
theorem dX1_hours_41 : decode cX1_hours 41 = .ok (.ireturn, 1) := dk_172 (dk_at dksX1_hours_1 17 rfl rfl)
abbrev cX1_anHour : ByteArray := prog_1_method_57_code
def yX1_anHour : MethodName := ⟨RX1, "anHour", "(LHungFaces$World;)I"⟩
def dkwX1_anHour_2 : List UInt8 := [180, 1, 115, 4, 96, 181, 1, 115, 28, 172]
abbrev dktX1_anHour_2 : List UInt8 := dkwX1_anHour_2 ++ []
def dkwX1_anHour_1 : List UInt8 := [167, 0, 4, 3, 96, 61, 132, 3, 1, 167, 255, 228, 43, 184, 1, 243, 43, 184, 1, 246, 43, 89]
abbrev dktX1_anHour_1 : List UInt8 := dkwX1_anHour_1 ++ dktX1_anHour_2
def dkwX1_anHour_0 : List UInt8 := [3, 61, 3, 62, 29, 43, 180, 0, 102, 162, 0, 26, 28, 42, 43, 29, 182, 1, 239, 153, 0, 7, 4]
abbrev dktX1_anHour_0 : List UInt8 := dkwX1_anHour_0 ++ dktX1_anHour_1
theorem dksX1_anHour_0 : cX1_anHour.data.toList.drop 0 = dktX1_anHour_0 := by decide +kernel
theorem dksX1_anHour_1 : cX1_anHour.data.toList.drop 23 = dktX1_anHour_1 := dk_seg dksX1_anHour_0 23 rfl rfl
theorem dksX1_anHour_2 : cX1_anHour.data.toList.drop 45 = dktX1_anHour_2 := dk_seg dksX1_anHour_1 22 rfl rfl
theorem dX1_anHour_0 : decode cX1_anHour 0 = .ok (.iconst 0, 1) := dk_3 (dk_at dksX1_anHour_0 0 rfl rfl)
theorem dX1_anHour_1 : decode cX1_anHour 1 = .ok (.istore_n 2, 1) := dk_61 (dk_at dksX1_anHour_0 1 rfl rfl)
theorem dX1_anHour_2 : decode cX1_anHour 2 = .ok (.iconst 0, 1) := dk_3 (dk_at dksX1_anHour_0 2 rfl rfl)
theorem dX1_anHour_3 : decode cX1_anHour 3 = .ok (.istore_n 3, 1) := dk_62 (dk_at dksX1_anHour_0 3 rfl rfl)
theorem dX1_anHour_4 : decode cX1_anHour 4 = .ok (.iload_n 3, 1) := dk_29 (dk_at dksX1_anHour_0 4 rfl rfl)
theorem dX1_anHour_5 : decode cX1_anHour 5 = .ok (.aload_n 1, 1) := dk_43 (dk_at dksX1_anHour_0 5 rfl rfl)
theorem dX1_anHour_6 : decode cX1_anHour 6 = .ok (.getfield 102, 3) := dk_180 0 102 (dk_at dksX1_anHour_0 6 rfl rfl)
theorem dX1_anHour_9 : decode cX1_anHour 9 = .ok (.if_icmp .ge 26, 3) := dk_162 0 26 (dk_at dksX1_anHour_0 9 rfl rfl)
theorem dX1_anHour_12 : decode cX1_anHour 12 = .ok (.iload_n 2, 1) := dk_28 (dk_at dksX1_anHour_0 12 rfl rfl)
theorem dX1_anHour_13 : decode cX1_anHour 13 = .ok (.aload_n 0, 1) := dk_42 (dk_at dksX1_anHour_0 13 rfl rfl)
theorem dX1_anHour_14 : decode cX1_anHour 14 = .ok (.aload_n 1, 1) := dk_43 (dk_at dksX1_anHour_0 14 rfl rfl)
theorem dX1_anHour_15 : decode cX1_anHour 15 = .ok (.iload_n 3, 1) := dk_29 (dk_at dksX1_anHour_0 15 rfl rfl)
theorem dX1_anHour_16 : decode cX1_anHour 16 = .ok (.invokevirtual 495, 3) := dk_182 1 239 (dk_at dksX1_anHour_0 16 rfl rfl)
theorem dX1_anHour_19 : decode cX1_anHour 19 = .ok (.ifCond .eq 7, 3) := dk_153 0 7 (dk_at dksX1_anHour_0 19 rfl rfl)
theorem dX1_anHour_22 : decode cX1_anHour 22 = .ok (.iconst 1, 1) := dk_4 (dk_at dksX1_anHour_0 22 rfl rfl)
theorem dX1_anHour_23 : decode cX1_anHour 23 = .ok (.goto 4, 3) := dk_167 0 4 (dk_at dksX1_anHour_1 0 rfl rfl)
theorem dX1_anHour_26 : decode cX1_anHour 26 = .ok (.iconst 0, 1) := dk_3 (dk_at dksX1_anHour_1 3 rfl rfl)
theorem dX1_anHour_27 : decode cX1_anHour 27 = .ok (.iadd, 1) := dk_96 (dk_at dksX1_anHour_1 4 rfl rfl)
theorem dX1_anHour_28 : decode cX1_anHour 28 = .ok (.istore_n 2, 1) := dk_61 (dk_at dksX1_anHour_1 5 rfl rfl)
theorem dX1_anHour_29 : decode cX1_anHour 29 = .ok (.iinc 3 1, 3) := dk_132 3 1 (dk_at dksX1_anHour_1 6 rfl rfl)
theorem dX1_anHour_32 : decode cX1_anHour 32 = .ok (.goto (-28), 3) := dk_167 255 228 (dk_at dksX1_anHour_1 9 rfl rfl)
theorem dX1_anHour_35 : decode cX1_anHour 35 = .ok (.aload_n 1, 1) := dk_43 (dk_at dksX1_anHour_1 12 rfl rfl)
theorem dX1_anHour_36 : decode cX1_anHour 36 = .ok (.invokestatic 499, 3) := dk_184 1 243 (dk_at dksX1_anHour_1 13 rfl rfl)
theorem dX1_anHour_39 : decode cX1_anHour 39 = .ok (.aload_n 1, 1) := dk_43 (dk_at dksX1_anHour_1 16 rfl rfl)
theorem dX1_anHour_40 : decode cX1_anHour 40 = .ok (.invokestatic 502, 3) := dk_184 1 246 (dk_at dksX1_anHour_1 17 rfl rfl)
theorem dX1_anHour_43 : decode cX1_anHour 43 = .ok (.aload_n 1, 1) := dk_43 (dk_at dksX1_anHour_1 20 rfl rfl)
theorem dX1_anHour_44 : decode cX1_anHour 44 = .ok (.dup, 1) := dk_89 (dk_at dksX1_anHour_1 21 rfl rfl)
theorem dX1_anHour_45 : decode cX1_anHour 45 = .ok (.getfield 371, 3) := dk_180 1 115 (dk_at dksX1_anHour_2 0 rfl rfl)
theorem dX1_anHour_48 : decode cX1_anHour 48 = .ok (.iconst 1, 1) := dk_4 (dk_at dksX1_anHour_2 3 rfl rfl)
theorem dX1_anHour_49 : decode cX1_anHour 49 = .ok (.iadd, 1) := dk_96 (dk_at dksX1_anHour_2 4 rfl rfl)
theorem dX1_anHour_50 : decode cX1_anHour 50 = .ok (.putfield 371, 3) := dk_181 1 115 (dk_at dksX1_anHour_2 5 rfl rfl)
theorem dX1_anHour_53 : decode cX1_anHour 53 = .ok (.iload_n 2, 1) := dk_28 (dk_at dksX1_anHour_2 8 rfl rfl)
theorem dX1_anHour_54 : decode cX1_anHour 54 = .ok (.ireturn, 1) := dk_172 (dk_at dksX1_anHour_2 9 rfl rfl)
abbrev cX1_acts : ByteArray := prog_1_method_54_code
def yX1_acts : MethodName := ⟨RX1, "acts", "(LHungFaces$World;I)Z"⟩
def dkwX1_acts_3 : List UInt8 := [28, 3, 182, 1, 226, 154, 0, 5, 3, 172, 43, 28, 182, 1, 204, 4, 172]
abbrev dktX1_acts_3 : List UInt8 := dkwX1_acts_3 ++ []
def dkwX1_acts_2 : List UInt8 := [4, 172, 43, 180, 0, 120, 28, 46, 2, 160, 0, 23, 43, 180, 0, 123, 28, 46, 2, 159, 0, 13, 42, 43]
abbrev dktX1_acts_2 : List UInt8 := dkwX1_acts_2 ++ dktX1_acts_3
def dkwX1_acts_1 : List UInt8 := [160, 0, 26, 29, 2, 159, 0, 21, 42, 43, 28, 4, 182, 1, 226, 153, 0, 11, 43, 28, 29, 182, 1, 201]
abbrev dktX1_acts_1 : List UInt8 := dkwX1_acts_1 ++ dktX1_acts_2
def dkwX1_acts_0 : List UInt8 := [43, 182, 1, 223, 62, 43, 180, 0, 120, 28, 46, 2, 159, 0, 36, 43, 180, 0, 123, 28, 46, 2]
abbrev dktX1_acts_0 : List UInt8 := dkwX1_acts_0 ++ dktX1_acts_1
theorem dksX1_acts_0 : cX1_acts.data.toList.drop 0 = dktX1_acts_0 := by decide +kernel
theorem dksX1_acts_1 : cX1_acts.data.toList.drop 22 = dktX1_acts_1 := dk_seg dksX1_acts_0 22 rfl rfl
theorem dksX1_acts_2 : cX1_acts.data.toList.drop 46 = dktX1_acts_2 := dk_seg dksX1_acts_1 24 rfl rfl
theorem dksX1_acts_3 : cX1_acts.data.toList.drop 70 = dktX1_acts_3 := dk_seg dksX1_acts_2 24 rfl rfl
theorem dX1_acts_0 : decode cX1_acts 0 = .ok (.aload_n 1, 1) := dk_43 (dk_at dksX1_acts_0 0 rfl rfl)
theorem dX1_acts_1 : decode cX1_acts 1 = .ok (.invokevirtual 479, 3) := dk_182 1 223 (dk_at dksX1_acts_0 1 rfl rfl)
theorem dX1_acts_4 : decode cX1_acts 4 = .ok (.istore_n 3, 1) := dk_62 (dk_at dksX1_acts_0 4 rfl rfl)
theorem dX1_acts_5 : decode cX1_acts 5 = .ok (.aload_n 1, 1) := dk_43 (dk_at dksX1_acts_0 5 rfl rfl)
theorem dX1_acts_6 : decode cX1_acts 6 = .ok (.getfield 120, 3) := dk_180 0 120 (dk_at dksX1_acts_0 6 rfl rfl)
theorem dX1_acts_9 : decode cX1_acts 9 = .ok (.iload_n 2, 1) := dk_28 (dk_at dksX1_acts_0 9 rfl rfl)
theorem dX1_acts_10 : decode cX1_acts 10 = .ok (.iaload, 1) := dk_46 (dk_at dksX1_acts_0 10 rfl rfl)
theorem dX1_acts_11 : decode cX1_acts 11 = .ok (.iconst (-1), 1) := dk_2 (dk_at dksX1_acts_0 11 rfl rfl)
theorem dX1_acts_12 : decode cX1_acts 12 = .ok (.if_icmp .eq 36, 3) := dk_159 0 36 (dk_at dksX1_acts_0 12 rfl rfl)
theorem dX1_acts_15 : decode cX1_acts 15 = .ok (.aload_n 1, 1) := dk_43 (dk_at dksX1_acts_0 15 rfl rfl)
theorem dX1_acts_16 : decode cX1_acts 16 = .ok (.getfield 123, 3) := dk_180 0 123 (dk_at dksX1_acts_0 16 rfl rfl)
theorem dX1_acts_19 : decode cX1_acts 19 = .ok (.iload_n 2, 1) := dk_28 (dk_at dksX1_acts_0 19 rfl rfl)
theorem dX1_acts_20 : decode cX1_acts 20 = .ok (.iaload, 1) := dk_46 (dk_at dksX1_acts_0 20 rfl rfl)
theorem dX1_acts_21 : decode cX1_acts 21 = .ok (.iconst (-1), 1) := dk_2 (dk_at dksX1_acts_0 21 rfl rfl)
theorem dX1_acts_22 : decode cX1_acts 22 = .ok (.if_icmp .ne 26, 3) := dk_160 0 26 (dk_at dksX1_acts_1 0 rfl rfl)
theorem dX1_acts_25 : decode cX1_acts 25 = .ok (.iload_n 3, 1) := dk_29 (dk_at dksX1_acts_1 3 rfl rfl)
theorem dX1_acts_26 : decode cX1_acts 26 = .ok (.iconst (-1), 1) := dk_2 (dk_at dksX1_acts_1 4 rfl rfl)
theorem dX1_acts_27 : decode cX1_acts 27 = .ok (.if_icmp .eq 21, 3) := dk_159 0 21 (dk_at dksX1_acts_1 5 rfl rfl)
theorem dX1_acts_30 : decode cX1_acts 30 = .ok (.aload_n 0, 1) := dk_42 (dk_at dksX1_acts_1 8 rfl rfl)
theorem dX1_acts_31 : decode cX1_acts 31 = .ok (.aload_n 1, 1) := dk_43 (dk_at dksX1_acts_1 9 rfl rfl)
theorem dX1_acts_32 : decode cX1_acts 32 = .ok (.iload_n 2, 1) := dk_28 (dk_at dksX1_acts_1 10 rfl rfl)
theorem dX1_acts_33 : decode cX1_acts 33 = .ok (.iconst 1, 1) := dk_4 (dk_at dksX1_acts_1 11 rfl rfl)
theorem dX1_acts_34 : decode cX1_acts 34 = .ok (.invokevirtual 482, 3) := dk_182 1 226 (dk_at dksX1_acts_1 12 rfl rfl)
theorem dX1_acts_37 : decode cX1_acts 37 = .ok (.ifCond .eq 11, 3) := dk_153 0 11 (dk_at dksX1_acts_1 15 rfl rfl)
theorem dX1_acts_40 : decode cX1_acts 40 = .ok (.aload_n 1, 1) := dk_43 (dk_at dksX1_acts_1 18 rfl rfl)
theorem dX1_acts_41 : decode cX1_acts 41 = .ok (.iload_n 2, 1) := dk_28 (dk_at dksX1_acts_1 19 rfl rfl)
theorem dX1_acts_42 : decode cX1_acts 42 = .ok (.iload_n 3, 1) := dk_29 (dk_at dksX1_acts_1 20 rfl rfl)
theorem dX1_acts_43 : decode cX1_acts 43 = .ok (.invokevirtual 457, 3) := dk_182 1 201 (dk_at dksX1_acts_1 21 rfl rfl)
theorem dX1_acts_46 : decode cX1_acts 46 = .ok (.iconst 1, 1) := dk_4 (dk_at dksX1_acts_2 0 rfl rfl)
theorem dX1_acts_47 : decode cX1_acts 47 = .ok (.ireturn, 1) := dk_172 (dk_at dksX1_acts_2 1 rfl rfl)
theorem dX1_acts_48 : decode cX1_acts 48 = .ok (.aload_n 1, 1) := dk_43 (dk_at dksX1_acts_2 2 rfl rfl)
theorem dX1_acts_49 : decode cX1_acts 49 = .ok (.getfield 120, 3) := dk_180 0 120 (dk_at dksX1_acts_2 3 rfl rfl)
theorem dX1_acts_52 : decode cX1_acts 52 = .ok (.iload_n 2, 1) := dk_28 (dk_at dksX1_acts_2 6 rfl rfl)
theorem dX1_acts_53 : decode cX1_acts 53 = .ok (.iaload, 1) := dk_46 (dk_at dksX1_acts_2 7 rfl rfl)
theorem dX1_acts_54 : decode cX1_acts 54 = .ok (.iconst (-1), 1) := dk_2 (dk_at dksX1_acts_2 8 rfl rfl)
theorem dX1_acts_55 : decode cX1_acts 55 = .ok (.if_icmp .ne 23, 3) := dk_160 0 23 (dk_at dksX1_acts_2 9 rfl rfl)
theorem dX1_acts_58 : decode cX1_acts 58 = .ok (.aload_n 1, 1) := dk_43 (dk_at dksX1_acts_2 12 rfl rfl)
theorem dX1_acts_59 : decode cX1_acts 59 = .ok (.getfield 123, 3) := dk_180 0 123 (dk_at dksX1_acts_2 13 rfl rfl)
theorem dX1_acts_62 : decode cX1_acts 62 = .ok (.iload_n 2, 1) := dk_28 (dk_at dksX1_acts_2 16 rfl rfl)
theorem dX1_acts_63 : decode cX1_acts 63 = .ok (.iaload, 1) := dk_46 (dk_at dksX1_acts_2 17 rfl rfl)
theorem dX1_acts_64 : decode cX1_acts 64 = .ok (.iconst (-1), 1) := dk_2 (dk_at dksX1_acts_2 18 rfl rfl)
theorem dX1_acts_65 : decode cX1_acts 65 = .ok (.if_icmp .eq 13, 3) := dk_159 0 13 (dk_at dksX1_acts_2 19 rfl rfl)
theorem dX1_acts_68 : decode cX1_acts 68 = .ok (.aload_n 0, 1) := dk_42 (dk_at dksX1_acts_2 22 rfl rfl)
theorem dX1_acts_69 : decode cX1_acts 69 = .ok (.aload_n 1, 1) := dk_43 (dk_at dksX1_acts_2 23 rfl rfl)
theorem dX1_acts_70 : decode cX1_acts 70 = .ok (.iload_n 2, 1) := dk_28 (dk_at dksX1_acts_3 0 rfl rfl)
theorem dX1_acts_71 : decode cX1_acts 71 = .ok (.iconst 0, 1) := dk_3 (dk_at dksX1_acts_3 1 rfl rfl)
theorem dX1_acts_72 : decode cX1_acts 72 = .ok (.invokevirtual 482, 3) := dk_182 1 226 (dk_at dksX1_acts_3 2 rfl rfl)
theorem dX1_acts_75 : decode cX1_acts 75 = .ok (.ifCond .ne 5, 3) := dk_154 0 5 (dk_at dksX1_acts_3 5 rfl rfl)
theorem dX1_acts_78 : decode cX1_acts 78 = .ok (.iconst 0, 1) := dk_3 (dk_at dksX1_acts_3 8 rfl rfl)
theorem dX1_acts_79 : decode cX1_acts 79 = .ok (.ireturn, 1) := dk_172 (dk_at dksX1_acts_3 9 rfl rfl)
theorem dX1_acts_80 : decode cX1_acts 80 = .ok (.aload_n 1, 1) := dk_43 (dk_at dksX1_acts_3 10 rfl rfl)
theorem dX1_acts_81 : decode cX1_acts 81 = .ok (.iload_n 2, 1) := dk_28 (dk_at dksX1_acts_3 11 rfl rfl)
theorem dX1_acts_82 : decode cX1_acts 82 = .ok (.invokevirtual 460, 3) := dk_182 1 204 (dk_at dksX1_acts_3 12 rfl rfl)
theorem dX1_acts_85 : decode cX1_acts 85 = .ok (.iconst 1, 1) := dk_4 (dk_at dksX1_acts_3 15 rfl rfl)
theorem dX1_acts_86 : decode cX1_acts 86 = .ok (.ireturn, 1) := dk_172 (dk_at dksX1_acts_3 16 rfl rfl)
abbrev cX1_says : ByteArray := prog_1_method_28_code
def yX1_says : MethodName := ⟨RX1, "says", "(LHungFaces$World;IZ)Z"⟩
def dkwX1_says_7 : List UInt8 := [180, 1, 105, 29, 42, 180, 0, 32, 182, 1, 142, 172]
abbrev dktX1_says_7 : List UInt8 := dkwX1_says_7 ++ []
def dkwX1_says_6 : List UInt8 := [180, 0, 32, 43, 180, 0, 126, 28, 46, 2, 159, 0, 7, 4, 167, 0, 4, 3, 181, 1, 140, 43]
abbrev dktX1_says_6 : List UInt8 := dkwX1_says_6 ++ dktX1_says_7
def dkwX1_says_5 : List UInt8 := [181, 1, 134, 42, 180, 0, 32, 21, 4, 28, 160, 0, 7, 4, 167, 0, 4, 3, 181, 1, 137, 42]
abbrev dktX1_says_5 : List UInt8 := dkwX1_says_5 ++ dktX1_says_6
def dkwX1_says_4 : List UInt8 := [43, 182, 1, 129, 181, 1, 132, 42, 180, 0, 32, 43, 180, 0, 166, 42, 180, 0, 32, 180, 1, 132, 100]
abbrev dktX1_says_4 : List UInt8 := dkwX1_says_4 ++ dktX1_says_5
def dkwX1_says_3 : List UInt8 := [160, 0, 7, 3, 167, 0, 13, 43, 180, 0, 109, 21, 4, 46, 184, 1, 121, 181, 1, 126, 42, 180, 0, 32]
abbrev dktX1_says_3 : List UInt8 := dkwX1_says_3 ++ dktX1_says_4
def dkwX1_says_2 : List UInt8 := [160, 0, 8, 16, 99, 167, 0, 9, 43, 180, 0, 123, 28, 46, 181, 1, 119, 42, 180, 0, 32, 21, 4, 2]
abbrev dktX1_says_2 : List UInt8 := dkwX1_says_2 ++ dktX1_says_3
def dkwX1_says_1 : List UInt8 := [42, 180, 0, 32, 43, 180, 1, 115, 181, 1, 118, 42, 180, 0, 32, 43, 180, 0, 123, 28, 46, 2]
abbrev dktX1_says_1 : List UInt8 := dkwX1_says_1 ++ dktX1_says_2
def dkwX1_says_0 : List UInt8 := [43, 180, 1, 105, 199, 0, 5, 3, 172, 43, 28, 182, 1, 109, 54, 4, 42, 180, 0, 32, 28, 181, 1, 112]
abbrev dktX1_says_0 : List UInt8 := dkwX1_says_0 ++ dktX1_says_1
theorem dksX1_says_0 : cX1_says.data.toList.drop 0 = dktX1_says_0 := by decide +kernel
theorem dksX1_says_1 : cX1_says.data.toList.drop 24 = dktX1_says_1 := dk_seg dksX1_says_0 24 rfl rfl
theorem dksX1_says_2 : cX1_says.data.toList.drop 46 = dktX1_says_2 := dk_seg dksX1_says_1 22 rfl rfl
theorem dksX1_says_3 : cX1_says.data.toList.drop 70 = dktX1_says_3 := dk_seg dksX1_says_2 24 rfl rfl
theorem dksX1_says_4 : cX1_says.data.toList.drop 94 = dktX1_says_4 := dk_seg dksX1_says_3 24 rfl rfl
theorem dksX1_says_5 : cX1_says.data.toList.drop 117 = dktX1_says_5 := dk_seg dksX1_says_4 23 rfl rfl
theorem dksX1_says_6 : cX1_says.data.toList.drop 139 = dktX1_says_6 := dk_seg dksX1_says_5 22 rfl rfl
theorem dksX1_says_7 : cX1_says.data.toList.drop 161 = dktX1_says_7 := dk_seg dksX1_says_6 22 rfl rfl
theorem dX1_says_0 : decode cX1_says 0 = .ok (.aload_n 1, 1) := dk_43 (dk_at dksX1_says_0 0 rfl rfl)
theorem dX1_says_1 : decode cX1_says 1 = .ok (.getfield 361, 3) := dk_180 1 105 (dk_at dksX1_says_0 1 rfl rfl)
theorem dX1_says_4 : decode cX1_says 4 = .ok (.ifnonnull 5, 3) := dk_199 0 5 (dk_at dksX1_says_0 4 rfl rfl)
theorem dX1_says_7 : decode cX1_says 7 = .ok (.iconst 0, 1) := dk_3 (dk_at dksX1_says_0 7 rfl rfl)
theorem dX1_says_8 : decode cX1_says 8 = .ok (.ireturn, 1) := dk_172 (dk_at dksX1_says_0 8 rfl rfl)
theorem dX1_says_9 : decode cX1_says 9 = .ok (.aload_n 1, 1) := dk_43 (dk_at dksX1_says_0 9 rfl rfl)
theorem dX1_says_10 : decode cX1_says 10 = .ok (.iload_n 2, 1) := dk_28 (dk_at dksX1_says_0 10 rfl rfl)
theorem dX1_says_11 : decode cX1_says 11 = .ok (.invokevirtual 365, 3) := dk_182 1 109 (dk_at dksX1_says_0 11 rfl rfl)
theorem dX1_says_14 : decode cX1_says 14 = .ok (.istore 4, 2) := dk_54 4 (dk_at dksX1_says_0 14 rfl rfl)
theorem dX1_says_16 : decode cX1_says 16 = .ok (.aload_n 0, 1) := dk_42 (dk_at dksX1_says_0 16 rfl rfl)
theorem dX1_says_17 : decode cX1_says 17 = .ok (.getfield 32, 3) := dk_180 0 32 (dk_at dksX1_says_0 17 rfl rfl)
theorem dX1_says_20 : decode cX1_says 20 = .ok (.iload_n 2, 1) := dk_28 (dk_at dksX1_says_0 20 rfl rfl)
theorem dX1_says_21 : decode cX1_says 21 = .ok (.putfield 368, 3) := dk_181 1 112 (dk_at dksX1_says_0 21 rfl rfl)
theorem dX1_says_24 : decode cX1_says 24 = .ok (.aload_n 0, 1) := dk_42 (dk_at dksX1_says_1 0 rfl rfl)
theorem dX1_says_25 : decode cX1_says 25 = .ok (.getfield 32, 3) := dk_180 0 32 (dk_at dksX1_says_1 1 rfl rfl)
theorem dX1_says_28 : decode cX1_says 28 = .ok (.aload_n 1, 1) := dk_43 (dk_at dksX1_says_1 4 rfl rfl)
theorem dX1_says_29 : decode cX1_says 29 = .ok (.getfield 371, 3) := dk_180 1 115 (dk_at dksX1_says_1 5 rfl rfl)
theorem dX1_says_32 : decode cX1_says 32 = .ok (.putfield 374, 3) := dk_181 1 118 (dk_at dksX1_says_1 8 rfl rfl)
theorem dX1_says_35 : decode cX1_says 35 = .ok (.aload_n 0, 1) := dk_42 (dk_at dksX1_says_1 11 rfl rfl)
theorem dX1_says_36 : decode cX1_says 36 = .ok (.getfield 32, 3) := dk_180 0 32 (dk_at dksX1_says_1 12 rfl rfl)
theorem dX1_says_39 : decode cX1_says 39 = .ok (.aload_n 1, 1) := dk_43 (dk_at dksX1_says_1 15 rfl rfl)
theorem dX1_says_40 : decode cX1_says 40 = .ok (.getfield 123, 3) := dk_180 0 123 (dk_at dksX1_says_1 16 rfl rfl)
theorem dX1_says_43 : decode cX1_says 43 = .ok (.iload_n 2, 1) := dk_28 (dk_at dksX1_says_1 19 rfl rfl)
theorem dX1_says_44 : decode cX1_says 44 = .ok (.iaload, 1) := dk_46 (dk_at dksX1_says_1 20 rfl rfl)
theorem dX1_says_45 : decode cX1_says 45 = .ok (.iconst (-1), 1) := dk_2 (dk_at dksX1_says_1 21 rfl rfl)
theorem dX1_says_46 : decode cX1_says 46 = .ok (.if_icmp .ne 8, 3) := dk_160 0 8 (dk_at dksX1_says_2 0 rfl rfl)
theorem dX1_says_49 : decode cX1_says 49 = .ok (.bipush 99, 2) := dk_16 99 (dk_at dksX1_says_2 3 rfl rfl)
theorem dX1_says_51 : decode cX1_says 51 = .ok (.goto 9, 3) := dk_167 0 9 (dk_at dksX1_says_2 5 rfl rfl)
theorem dX1_says_54 : decode cX1_says 54 = .ok (.aload_n 1, 1) := dk_43 (dk_at dksX1_says_2 8 rfl rfl)
theorem dX1_says_55 : decode cX1_says 55 = .ok (.getfield 123, 3) := dk_180 0 123 (dk_at dksX1_says_2 9 rfl rfl)
theorem dX1_says_58 : decode cX1_says 58 = .ok (.iload_n 2, 1) := dk_28 (dk_at dksX1_says_2 12 rfl rfl)
theorem dX1_says_59 : decode cX1_says 59 = .ok (.iaload, 1) := dk_46 (dk_at dksX1_says_2 13 rfl rfl)
theorem dX1_says_60 : decode cX1_says 60 = .ok (.putfield 375, 3) := dk_181 1 119 (dk_at dksX1_says_2 14 rfl rfl)
theorem dX1_says_63 : decode cX1_says 63 = .ok (.aload_n 0, 1) := dk_42 (dk_at dksX1_says_2 17 rfl rfl)
theorem dX1_says_64 : decode cX1_says 64 = .ok (.getfield 32, 3) := dk_180 0 32 (dk_at dksX1_says_2 18 rfl rfl)
theorem dX1_says_67 : decode cX1_says 67 = .ok (.iload 4, 2) := dk_21 4 (dk_at dksX1_says_2 21 rfl rfl)
theorem dX1_says_69 : decode cX1_says 69 = .ok (.iconst (-1), 1) := dk_2 (dk_at dksX1_says_2 23 rfl rfl)
theorem dX1_says_70 : decode cX1_says 70 = .ok (.if_icmp .ne 7, 3) := dk_160 0 7 (dk_at dksX1_says_3 0 rfl rfl)
theorem dX1_says_73 : decode cX1_says 73 = .ok (.iconst 0, 1) := dk_3 (dk_at dksX1_says_3 3 rfl rfl)
theorem dX1_says_74 : decode cX1_says 74 = .ok (.goto 13, 3) := dk_167 0 13 (dk_at dksX1_says_3 4 rfl rfl)
theorem dX1_says_77 : decode cX1_says 77 = .ok (.aload_n 1, 1) := dk_43 (dk_at dksX1_says_3 7 rfl rfl)
theorem dX1_says_78 : decode cX1_says 78 = .ok (.getfield 109, 3) := dk_180 0 109 (dk_at dksX1_says_3 8 rfl rfl)
theorem dX1_says_81 : decode cX1_says 81 = .ok (.iload 4, 2) := dk_21 4 (dk_at dksX1_says_3 11 rfl rfl)
theorem dX1_says_83 : decode cX1_says 83 = .ok (.iaload, 1) := dk_46 (dk_at dksX1_says_3 13 rfl rfl)
theorem dX1_says_84 : decode cX1_says 84 = .ok (.invokestatic 377, 3) := dk_184 1 121 (dk_at dksX1_says_3 14 rfl rfl)
theorem dX1_says_87 : decode cX1_says 87 = .ok (.putfield 382, 3) := dk_181 1 126 (dk_at dksX1_says_3 17 rfl rfl)
theorem dX1_says_90 : decode cX1_says 90 = .ok (.aload_n 0, 1) := dk_42 (dk_at dksX1_says_3 20 rfl rfl)
theorem dX1_says_91 : decode cX1_says 91 = .ok (.getfield 32, 3) := dk_180 0 32 (dk_at dksX1_says_3 21 rfl rfl)
theorem dX1_says_94 : decode cX1_says 94 = .ok (.aload_n 1, 1) := dk_43 (dk_at dksX1_says_4 0 rfl rfl)
theorem dX1_says_95 : decode cX1_says 95 = .ok (.invokevirtual 385, 3) := dk_182 1 129 (dk_at dksX1_says_4 1 rfl rfl)
theorem dX1_says_98 : decode cX1_says 98 = .ok (.putfield 388, 3) := dk_181 1 132 (dk_at dksX1_says_4 4 rfl rfl)
theorem dX1_says_101 : decode cX1_says 101 = .ok (.aload_n 0, 1) := dk_42 (dk_at dksX1_says_4 7 rfl rfl)
theorem dX1_says_102 : decode cX1_says 102 = .ok (.getfield 32, 3) := dk_180 0 32 (dk_at dksX1_says_4 8 rfl rfl)
theorem dX1_says_105 : decode cX1_says 105 = .ok (.aload_n 1, 1) := dk_43 (dk_at dksX1_says_4 11 rfl rfl)
theorem dX1_says_106 : decode cX1_says 106 = .ok (.getfield 166, 3) := dk_180 0 166 (dk_at dksX1_says_4 12 rfl rfl)
theorem dX1_says_109 : decode cX1_says 109 = .ok (.aload_n 0, 1) := dk_42 (dk_at dksX1_says_4 15 rfl rfl)
theorem dX1_says_110 : decode cX1_says 110 = .ok (.getfield 32, 3) := dk_180 0 32 (dk_at dksX1_says_4 16 rfl rfl)
theorem dX1_says_113 : decode cX1_says 113 = .ok (.getfield 388, 3) := dk_180 1 132 (dk_at dksX1_says_4 19 rfl rfl)
theorem dX1_says_116 : decode cX1_says 116 = .ok (.isub, 1) := dk_100 (dk_at dksX1_says_4 22 rfl rfl)
theorem dX1_says_117 : decode cX1_says 117 = .ok (.putfield 390, 3) := dk_181 1 134 (dk_at dksX1_says_5 0 rfl rfl)
theorem dX1_says_120 : decode cX1_says 120 = .ok (.aload_n 0, 1) := dk_42 (dk_at dksX1_says_5 3 rfl rfl)
theorem dX1_says_121 : decode cX1_says 121 = .ok (.getfield 32, 3) := dk_180 0 32 (dk_at dksX1_says_5 4 rfl rfl)
theorem dX1_says_124 : decode cX1_says 124 = .ok (.iload 4, 2) := dk_21 4 (dk_at dksX1_says_5 7 rfl rfl)
theorem dX1_says_126 : decode cX1_says 126 = .ok (.iload_n 2, 1) := dk_28 (dk_at dksX1_says_5 9 rfl rfl)
theorem dX1_says_127 : decode cX1_says 127 = .ok (.if_icmp .ne 7, 3) := dk_160 0 7 (dk_at dksX1_says_5 10 rfl rfl)
theorem dX1_says_130 : decode cX1_says 130 = .ok (.iconst 1, 1) := dk_4 (dk_at dksX1_says_5 13 rfl rfl)
theorem dX1_says_131 : decode cX1_says 131 = .ok (.goto 4, 3) := dk_167 0 4 (dk_at dksX1_says_5 14 rfl rfl)
theorem dX1_says_134 : decode cX1_says 134 = .ok (.iconst 0, 1) := dk_3 (dk_at dksX1_says_5 17 rfl rfl)
theorem dX1_says_135 : decode cX1_says 135 = .ok (.putfield 393, 3) := dk_181 1 137 (dk_at dksX1_says_5 18 rfl rfl)
theorem dX1_says_138 : decode cX1_says 138 = .ok (.aload_n 0, 1) := dk_42 (dk_at dksX1_says_5 21 rfl rfl)
theorem dX1_says_139 : decode cX1_says 139 = .ok (.getfield 32, 3) := dk_180 0 32 (dk_at dksX1_says_6 0 rfl rfl)
theorem dX1_says_142 : decode cX1_says 142 = .ok (.aload_n 1, 1) := dk_43 (dk_at dksX1_says_6 3 rfl rfl)
theorem dX1_says_143 : decode cX1_says 143 = .ok (.getfield 126, 3) := dk_180 0 126 (dk_at dksX1_says_6 4 rfl rfl)
theorem dX1_says_146 : decode cX1_says 146 = .ok (.iload_n 2, 1) := dk_28 (dk_at dksX1_says_6 7 rfl rfl)
theorem dX1_says_147 : decode cX1_says 147 = .ok (.iaload, 1) := dk_46 (dk_at dksX1_says_6 8 rfl rfl)
theorem dX1_says_148 : decode cX1_says 148 = .ok (.iconst (-1), 1) := dk_2 (dk_at dksX1_says_6 9 rfl rfl)
theorem dX1_says_149 : decode cX1_says 149 = .ok (.if_icmp .eq 7, 3) := dk_159 0 7 (dk_at dksX1_says_6 10 rfl rfl)
theorem dX1_says_152 : decode cX1_says 152 = .ok (.iconst 1, 1) := dk_4 (dk_at dksX1_says_6 13 rfl rfl)
theorem dX1_says_153 : decode cX1_says 153 = .ok (.goto 4, 3) := dk_167 0 4 (dk_at dksX1_says_6 14 rfl rfl)
theorem dX1_says_156 : decode cX1_says 156 = .ok (.iconst 0, 1) := dk_3 (dk_at dksX1_says_6 17 rfl rfl)
theorem dX1_says_157 : decode cX1_says 157 = .ok (.putfield 396, 3) := dk_181 1 140 (dk_at dksX1_says_6 18 rfl rfl)
theorem dX1_says_160 : decode cX1_says 160 = .ok (.aload_n 1, 1) := dk_43 (dk_at dksX1_says_6 21 rfl rfl)
theorem dX1_says_161 : decode cX1_says 161 = .ok (.getfield 361, 3) := dk_180 1 105 (dk_at dksX1_says_7 0 rfl rfl)
theorem dX1_says_164 : decode cX1_says 164 = .ok (.iload_n 3, 1) := dk_29 (dk_at dksX1_says_7 3 rfl rfl)
theorem dX1_says_165 : decode cX1_says 165 = .ok (.aload_n 0, 1) := dk_42 (dk_at dksX1_says_7 4 rfl rfl)
theorem dX1_says_166 : decode cX1_says 166 = .ok (.getfield 32, 3) := dk_180 0 32 (dk_at dksX1_says_7 5 rfl rfl)
theorem dX1_says_169 : decode cX1_says 169 = .ok (.invokevirtual 398, 3) := dk_182 1 142 (dk_at dksX1_says_7 8 rfl rfl)
theorem dX1_says_172 : decode cX1_says 172 = .ok (.ireturn, 1) := dk_172 (dk_at dksX1_says_7 11 rfl rfl)
abbrev cX1_mixing : ByteArray := prog_1_method_55_code
def yX1_mixing : MethodName := ⟨RX1, "mixing", "(LHungFaces$World;)V"⟩
def dkwX1_mixing_3 : List UInt8 := [184, 1, 236, 182, 1, 207, 177]
abbrev dktX1_mixing_3 : List UInt8 := dkwX1_mixing_3 ++ []
def dkwX1_mixing_2 : List UInt8 := [54, 4, 28, 4, 21, 4, 120, 2, 130, 126, 54, 5, 42, 21, 4, 21, 5, 42, 29, 4, 100, 182, 1, 230]
abbrev dktX1_mixing_2 : List UInt8 := dkwX1_mixing_2 ++ dktX1_mixing_3
def dkwX1_mixing_1 : List UInt8 := [28, 184, 1, 121, 62, 27, 153, 0, 8, 29, 5, 162, 0, 4, 177, 28, 42, 29, 182, 1, 230, 184, 1, 236]
abbrev dktX1_mixing_1 : List UInt8 := dkwX1_mixing_1 ++ dktX1_mixing_2
def dkwX1_mixing_0 : List UInt8 := [42, 16, 100, 182, 1, 230, 42, 180, 0, 210, 162, 0, 7, 4, 167, 0, 4, 3, 60, 42, 182, 1, 233, 61]
abbrev dktX1_mixing_0 : List UInt8 := dkwX1_mixing_0 ++ dktX1_mixing_1
theorem dksX1_mixing_0 : cX1_mixing.data.toList.drop 0 = dktX1_mixing_0 := by decide +kernel
theorem dksX1_mixing_1 : cX1_mixing.data.toList.drop 24 = dktX1_mixing_1 := dk_seg dksX1_mixing_0 24 rfl rfl
theorem dksX1_mixing_2 : cX1_mixing.data.toList.drop 48 = dktX1_mixing_2 := dk_seg dksX1_mixing_1 24 rfl rfl
theorem dksX1_mixing_3 : cX1_mixing.data.toList.drop 72 = dktX1_mixing_3 := dk_seg dksX1_mixing_2 24 rfl rfl
theorem dX1_mixing_0 : decode cX1_mixing 0 = .ok (.aload_n 0, 1) := dk_42 (dk_at dksX1_mixing_0 0 rfl rfl)
theorem dX1_mixing_1 : decode cX1_mixing 1 = .ok (.bipush 100, 2) := dk_16 100 (dk_at dksX1_mixing_0 1 rfl rfl)
theorem dX1_mixing_3 : decode cX1_mixing 3 = .ok (.invokevirtual 486, 3) := dk_182 1 230 (dk_at dksX1_mixing_0 3 rfl rfl)
theorem dX1_mixing_6 : decode cX1_mixing 6 = .ok (.aload_n 0, 1) := dk_42 (dk_at dksX1_mixing_0 6 rfl rfl)
theorem dX1_mixing_7 : decode cX1_mixing 7 = .ok (.getfield 210, 3) := dk_180 0 210 (dk_at dksX1_mixing_0 7 rfl rfl)
theorem dX1_mixing_10 : decode cX1_mixing 10 = .ok (.if_icmp .ge 7, 3) := dk_162 0 7 (dk_at dksX1_mixing_0 10 rfl rfl)
theorem dX1_mixing_13 : decode cX1_mixing 13 = .ok (.iconst 1, 1) := dk_4 (dk_at dksX1_mixing_0 13 rfl rfl)
theorem dX1_mixing_14 : decode cX1_mixing 14 = .ok (.goto 4, 3) := dk_167 0 4 (dk_at dksX1_mixing_0 14 rfl rfl)
theorem dX1_mixing_17 : decode cX1_mixing 17 = .ok (.iconst 0, 1) := dk_3 (dk_at dksX1_mixing_0 17 rfl rfl)
theorem dX1_mixing_18 : decode cX1_mixing 18 = .ok (.istore_n 1, 1) := dk_60 (dk_at dksX1_mixing_0 18 rfl rfl)
theorem dX1_mixing_19 : decode cX1_mixing 19 = .ok (.aload_n 0, 1) := dk_42 (dk_at dksX1_mixing_0 19 rfl rfl)
theorem dX1_mixing_20 : decode cX1_mixing 20 = .ok (.invokevirtual 489, 3) := dk_182 1 233 (dk_at dksX1_mixing_0 20 rfl rfl)
theorem dX1_mixing_23 : decode cX1_mixing 23 = .ok (.istore_n 2, 1) := dk_61 (dk_at dksX1_mixing_0 23 rfl rfl)
theorem dX1_mixing_24 : decode cX1_mixing 24 = .ok (.iload_n 2, 1) := dk_28 (dk_at dksX1_mixing_1 0 rfl rfl)
theorem dX1_mixing_25 : decode cX1_mixing 25 = .ok (.invokestatic 377, 3) := dk_184 1 121 (dk_at dksX1_mixing_1 1 rfl rfl)
theorem dX1_mixing_28 : decode cX1_mixing 28 = .ok (.istore_n 3, 1) := dk_62 (dk_at dksX1_mixing_1 4 rfl rfl)
theorem dX1_mixing_29 : decode cX1_mixing 29 = .ok (.iload_n 1, 1) := dk_27 (dk_at dksX1_mixing_1 5 rfl rfl)
theorem dX1_mixing_30 : decode cX1_mixing 30 = .ok (.ifCond .eq 8, 3) := dk_153 0 8 (dk_at dksX1_mixing_1 6 rfl rfl)
theorem dX1_mixing_33 : decode cX1_mixing 33 = .ok (.iload_n 3, 1) := dk_29 (dk_at dksX1_mixing_1 9 rfl rfl)
theorem dX1_mixing_34 : decode cX1_mixing 34 = .ok (.iconst 2, 1) := dk_5 (dk_at dksX1_mixing_1 10 rfl rfl)
theorem dX1_mixing_35 : decode cX1_mixing 35 = .ok (.if_icmp .ge 4, 3) := dk_162 0 4 (dk_at dksX1_mixing_1 11 rfl rfl)
theorem dX1_mixing_38 : decode cX1_mixing 38 = .ok (.return_, 1) := dk_177 (dk_at dksX1_mixing_1 14 rfl rfl)
theorem dX1_mixing_39 : decode cX1_mixing 39 = .ok (.iload_n 2, 1) := dk_28 (dk_at dksX1_mixing_1 15 rfl rfl)
theorem dX1_mixing_40 : decode cX1_mixing 40 = .ok (.aload_n 0, 1) := dk_42 (dk_at dksX1_mixing_1 16 rfl rfl)
theorem dX1_mixing_41 : decode cX1_mixing 41 = .ok (.iload_n 3, 1) := dk_29 (dk_at dksX1_mixing_1 17 rfl rfl)
theorem dX1_mixing_42 : decode cX1_mixing 42 = .ok (.invokevirtual 486, 3) := dk_182 1 230 (dk_at dksX1_mixing_1 18 rfl rfl)
theorem dX1_mixing_45 : decode cX1_mixing 45 = .ok (.invokestatic 492, 3) := dk_184 1 236 (dk_at dksX1_mixing_1 21 rfl rfl)
theorem dX1_mixing_48 : decode cX1_mixing 48 = .ok (.istore 4, 2) := dk_54 4 (dk_at dksX1_mixing_2 0 rfl rfl)
theorem dX1_mixing_50 : decode cX1_mixing 50 = .ok (.iload_n 2, 1) := dk_28 (dk_at dksX1_mixing_2 2 rfl rfl)
theorem dX1_mixing_51 : decode cX1_mixing 51 = .ok (.iconst 1, 1) := dk_4 (dk_at dksX1_mixing_2 3 rfl rfl)
theorem dX1_mixing_52 : decode cX1_mixing 52 = .ok (.iload 4, 2) := dk_21 4 (dk_at dksX1_mixing_2 4 rfl rfl)
theorem dX1_mixing_54 : decode cX1_mixing 54 = .ok (.ishl, 1) := dk_120 (dk_at dksX1_mixing_2 6 rfl rfl)
theorem dX1_mixing_55 : decode cX1_mixing 55 = .ok (.iconst (-1), 1) := dk_2 (dk_at dksX1_mixing_2 7 rfl rfl)
theorem dX1_mixing_56 : decode cX1_mixing 56 = .ok (.ixor, 1) := dk_130 (dk_at dksX1_mixing_2 8 rfl rfl)
theorem dX1_mixing_57 : decode cX1_mixing 57 = .ok (.iand, 1) := dk_126 (dk_at dksX1_mixing_2 9 rfl rfl)
theorem dX1_mixing_58 : decode cX1_mixing 58 = .ok (.istore 5, 2) := dk_54 5 (dk_at dksX1_mixing_2 10 rfl rfl)
theorem dX1_mixing_60 : decode cX1_mixing 60 = .ok (.aload_n 0, 1) := dk_42 (dk_at dksX1_mixing_2 12 rfl rfl)
theorem dX1_mixing_61 : decode cX1_mixing 61 = .ok (.iload 4, 2) := dk_21 4 (dk_at dksX1_mixing_2 13 rfl rfl)
theorem dX1_mixing_63 : decode cX1_mixing 63 = .ok (.iload 5, 2) := dk_21 5 (dk_at dksX1_mixing_2 15 rfl rfl)
theorem dX1_mixing_65 : decode cX1_mixing 65 = .ok (.aload_n 0, 1) := dk_42 (dk_at dksX1_mixing_2 17 rfl rfl)
theorem dX1_mixing_66 : decode cX1_mixing 66 = .ok (.iload_n 3, 1) := dk_29 (dk_at dksX1_mixing_2 18 rfl rfl)
theorem dX1_mixing_67 : decode cX1_mixing 67 = .ok (.iconst 1, 1) := dk_4 (dk_at dksX1_mixing_2 19 rfl rfl)
theorem dX1_mixing_68 : decode cX1_mixing 68 = .ok (.isub, 1) := dk_100 (dk_at dksX1_mixing_2 20 rfl rfl)
theorem dX1_mixing_69 : decode cX1_mixing 69 = .ok (.invokevirtual 486, 3) := dk_182 1 230 (dk_at dksX1_mixing_2 21 rfl rfl)
theorem dX1_mixing_72 : decode cX1_mixing 72 = .ok (.invokestatic 492, 3) := dk_184 1 236 (dk_at dksX1_mixing_3 0 rfl rfl)
theorem dX1_mixing_75 : decode cX1_mixing 75 = .ok (.invokevirtual 463, 3) := dk_182 1 207 (dk_at dksX1_mixing_3 3 rfl rfl)
theorem dX1_mixing_78 : decode cX1_mixing 78 = .ok (.return_, 1) := dk_177 (dk_at dksX1_mixing_3 6 rfl rfl)
abbrev cX1_thieving : ByteArray := prog_1_method_56_code
def yX1_thieving : MethodName := ⟨RX1, "thieving", "(LHungFaces$World;)V"⟩
def dkwX1_thieving_4 : List UInt8 := [4, 100, 126, 79, 132, 4, 1, 167, 255, 197, 177]
abbrev dktX1_thieving_4 : List UInt8 := dkwX1_thieving_4 ++ []
def dkwX1_thieving_3 : List UInt8 := [180, 0, 109, 42, 180, 0, 160, 21, 4, 46, 92, 46, 42, 180, 0, 109, 42, 180, 0, 160, 21, 4, 46, 46]
abbrev dktX1_thieving_3 : List UInt8 := dkwX1_thieving_3 ++ dktX1_thieving_4
def dkwX1_thieving_2 : List UInt8 := [162, 0, 56, 42, 180, 0, 160, 21, 4, 46, 2, 159, 0, 39, 29, 132, 3, 255, 154, 0, 32, 42]
abbrev dktX1_thieving_2 : List UInt8 := dkwX1_thieving_2 ++ dktX1_thieving_3
def dkwX1_thieving_1 : List UInt8 := [27, 153, 0, 7, 28, 154, 0, 4, 177, 42, 28, 182, 1, 230, 62, 3, 54, 4, 21, 4, 42, 180, 0, 166]
abbrev dktX1_thieving_1 : List UInt8 := dkwX1_thieving_1 ++ dktX1_thieving_2
def dkwX1_thieving_0 : List UInt8 := [42, 16, 100, 182, 1, 230, 42, 180, 0, 212, 162, 0, 7, 4, 167, 0, 4, 3, 60, 42, 182, 1, 129, 61]
abbrev dktX1_thieving_0 : List UInt8 := dkwX1_thieving_0 ++ dktX1_thieving_1
theorem dksX1_thieving_0 : cX1_thieving.data.toList.drop 0 = dktX1_thieving_0 := by decide +kernel
theorem dksX1_thieving_1 : cX1_thieving.data.toList.drop 24 = dktX1_thieving_1 := dk_seg dksX1_thieving_0 24 rfl rfl
theorem dksX1_thieving_2 : cX1_thieving.data.toList.drop 48 = dktX1_thieving_2 := dk_seg dksX1_thieving_1 24 rfl rfl
theorem dksX1_thieving_3 : cX1_thieving.data.toList.drop 70 = dktX1_thieving_3 := dk_seg dksX1_thieving_2 22 rfl rfl
theorem dksX1_thieving_4 : cX1_thieving.data.toList.drop 94 = dktX1_thieving_4 := dk_seg dksX1_thieving_3 24 rfl rfl
theorem dX1_thieving_0 : decode cX1_thieving 0 = .ok (.aload_n 0, 1) := dk_42 (dk_at dksX1_thieving_0 0 rfl rfl)
theorem dX1_thieving_1 : decode cX1_thieving 1 = .ok (.bipush 100, 2) := dk_16 100 (dk_at dksX1_thieving_0 1 rfl rfl)
theorem dX1_thieving_3 : decode cX1_thieving 3 = .ok (.invokevirtual 486, 3) := dk_182 1 230 (dk_at dksX1_thieving_0 3 rfl rfl)
theorem dX1_thieving_6 : decode cX1_thieving 6 = .ok (.aload_n 0, 1) := dk_42 (dk_at dksX1_thieving_0 6 rfl rfl)
theorem dX1_thieving_7 : decode cX1_thieving 7 = .ok (.getfield 212, 3) := dk_180 0 212 (dk_at dksX1_thieving_0 7 rfl rfl)
theorem dX1_thieving_10 : decode cX1_thieving 10 = .ok (.if_icmp .ge 7, 3) := dk_162 0 7 (dk_at dksX1_thieving_0 10 rfl rfl)
theorem dX1_thieving_13 : decode cX1_thieving 13 = .ok (.iconst 1, 1) := dk_4 (dk_at dksX1_thieving_0 13 rfl rfl)
theorem dX1_thieving_14 : decode cX1_thieving 14 = .ok (.goto 4, 3) := dk_167 0 4 (dk_at dksX1_thieving_0 14 rfl rfl)
theorem dX1_thieving_17 : decode cX1_thieving 17 = .ok (.iconst 0, 1) := dk_3 (dk_at dksX1_thieving_0 17 rfl rfl)
theorem dX1_thieving_18 : decode cX1_thieving 18 = .ok (.istore_n 1, 1) := dk_60 (dk_at dksX1_thieving_0 18 rfl rfl)
theorem dX1_thieving_19 : decode cX1_thieving 19 = .ok (.aload_n 0, 1) := dk_42 (dk_at dksX1_thieving_0 19 rfl rfl)
theorem dX1_thieving_20 : decode cX1_thieving 20 = .ok (.invokevirtual 385, 3) := dk_182 1 129 (dk_at dksX1_thieving_0 20 rfl rfl)
theorem dX1_thieving_23 : decode cX1_thieving 23 = .ok (.istore_n 2, 1) := dk_61 (dk_at dksX1_thieving_0 23 rfl rfl)
theorem dX1_thieving_24 : decode cX1_thieving 24 = .ok (.iload_n 1, 1) := dk_27 (dk_at dksX1_thieving_1 0 rfl rfl)
theorem dX1_thieving_25 : decode cX1_thieving 25 = .ok (.ifCond .eq 7, 3) := dk_153 0 7 (dk_at dksX1_thieving_1 1 rfl rfl)
theorem dX1_thieving_28 : decode cX1_thieving 28 = .ok (.iload_n 2, 1) := dk_28 (dk_at dksX1_thieving_1 4 rfl rfl)
theorem dX1_thieving_29 : decode cX1_thieving 29 = .ok (.ifCond .ne 4, 3) := dk_154 0 4 (dk_at dksX1_thieving_1 5 rfl rfl)
theorem dX1_thieving_32 : decode cX1_thieving 32 = .ok (.return_, 1) := dk_177 (dk_at dksX1_thieving_1 8 rfl rfl)
theorem dX1_thieving_33 : decode cX1_thieving 33 = .ok (.aload_n 0, 1) := dk_42 (dk_at dksX1_thieving_1 9 rfl rfl)
theorem dX1_thieving_34 : decode cX1_thieving 34 = .ok (.iload_n 2, 1) := dk_28 (dk_at dksX1_thieving_1 10 rfl rfl)
theorem dX1_thieving_35 : decode cX1_thieving 35 = .ok (.invokevirtual 486, 3) := dk_182 1 230 (dk_at dksX1_thieving_1 11 rfl rfl)
theorem dX1_thieving_38 : decode cX1_thieving 38 = .ok (.istore_n 3, 1) := dk_62 (dk_at dksX1_thieving_1 14 rfl rfl)
theorem dX1_thieving_39 : decode cX1_thieving 39 = .ok (.iconst 0, 1) := dk_3 (dk_at dksX1_thieving_1 15 rfl rfl)
theorem dX1_thieving_40 : decode cX1_thieving 40 = .ok (.istore 4, 2) := dk_54 4 (dk_at dksX1_thieving_1 16 rfl rfl)
theorem dX1_thieving_42 : decode cX1_thieving 42 = .ok (.iload 4, 2) := dk_21 4 (dk_at dksX1_thieving_1 18 rfl rfl)
theorem dX1_thieving_44 : decode cX1_thieving 44 = .ok (.aload_n 0, 1) := dk_42 (dk_at dksX1_thieving_1 20 rfl rfl)
theorem dX1_thieving_45 : decode cX1_thieving 45 = .ok (.getfield 166, 3) := dk_180 0 166 (dk_at dksX1_thieving_1 21 rfl rfl)
theorem dX1_thieving_48 : decode cX1_thieving 48 = .ok (.if_icmp .ge 56, 3) := dk_162 0 56 (dk_at dksX1_thieving_2 0 rfl rfl)
theorem dX1_thieving_51 : decode cX1_thieving 51 = .ok (.aload_n 0, 1) := dk_42 (dk_at dksX1_thieving_2 3 rfl rfl)
theorem dX1_thieving_52 : decode cX1_thieving 52 = .ok (.getfield 160, 3) := dk_180 0 160 (dk_at dksX1_thieving_2 4 rfl rfl)
theorem dX1_thieving_55 : decode cX1_thieving 55 = .ok (.iload 4, 2) := dk_21 4 (dk_at dksX1_thieving_2 7 rfl rfl)
theorem dX1_thieving_57 : decode cX1_thieving 57 = .ok (.iaload, 1) := dk_46 (dk_at dksX1_thieving_2 9 rfl rfl)
theorem dX1_thieving_58 : decode cX1_thieving 58 = .ok (.iconst (-1), 1) := dk_2 (dk_at dksX1_thieving_2 10 rfl rfl)
theorem dX1_thieving_59 : decode cX1_thieving 59 = .ok (.if_icmp .eq 39, 3) := dk_159 0 39 (dk_at dksX1_thieving_2 11 rfl rfl)
theorem dX1_thieving_62 : decode cX1_thieving 62 = .ok (.iload_n 3, 1) := dk_29 (dk_at dksX1_thieving_2 14 rfl rfl)
theorem dX1_thieving_63 : decode cX1_thieving 63 = .ok (.iinc 3 (-1), 3) := dk_132 3 255 (dk_at dksX1_thieving_2 15 rfl rfl)
theorem dX1_thieving_66 : decode cX1_thieving 66 = .ok (.ifCond .ne 32, 3) := dk_154 0 32 (dk_at dksX1_thieving_2 18 rfl rfl)
theorem dX1_thieving_69 : decode cX1_thieving 69 = .ok (.aload_n 0, 1) := dk_42 (dk_at dksX1_thieving_2 21 rfl rfl)
theorem dX1_thieving_70 : decode cX1_thieving 70 = .ok (.getfield 109, 3) := dk_180 0 109 (dk_at dksX1_thieving_3 0 rfl rfl)
theorem dX1_thieving_73 : decode cX1_thieving 73 = .ok (.aload_n 0, 1) := dk_42 (dk_at dksX1_thieving_3 3 rfl rfl)
theorem dX1_thieving_74 : decode cX1_thieving 74 = .ok (.getfield 160, 3) := dk_180 0 160 (dk_at dksX1_thieving_3 4 rfl rfl)
theorem dX1_thieving_77 : decode cX1_thieving 77 = .ok (.iload 4, 2) := dk_21 4 (dk_at dksX1_thieving_3 7 rfl rfl)
theorem dX1_thieving_79 : decode cX1_thieving 79 = .ok (.iaload, 1) := dk_46 (dk_at dksX1_thieving_3 9 rfl rfl)
theorem dX1_thieving_80 : decode cX1_thieving 80 = .ok (.dup2, 1) := dk_92 (dk_at dksX1_thieving_3 10 rfl rfl)
theorem dX1_thieving_81 : decode cX1_thieving 81 = .ok (.iaload, 1) := dk_46 (dk_at dksX1_thieving_3 11 rfl rfl)
theorem dX1_thieving_82 : decode cX1_thieving 82 = .ok (.aload_n 0, 1) := dk_42 (dk_at dksX1_thieving_3 12 rfl rfl)
theorem dX1_thieving_83 : decode cX1_thieving 83 = .ok (.getfield 109, 3) := dk_180 0 109 (dk_at dksX1_thieving_3 13 rfl rfl)
theorem dX1_thieving_86 : decode cX1_thieving 86 = .ok (.aload_n 0, 1) := dk_42 (dk_at dksX1_thieving_3 16 rfl rfl)
theorem dX1_thieving_87 : decode cX1_thieving 87 = .ok (.getfield 160, 3) := dk_180 0 160 (dk_at dksX1_thieving_3 17 rfl rfl)
theorem dX1_thieving_90 : decode cX1_thieving 90 = .ok (.iload 4, 2) := dk_21 4 (dk_at dksX1_thieving_3 20 rfl rfl)
theorem dX1_thieving_92 : decode cX1_thieving 92 = .ok (.iaload, 1) := dk_46 (dk_at dksX1_thieving_3 22 rfl rfl)
theorem dX1_thieving_93 : decode cX1_thieving 93 = .ok (.iaload, 1) := dk_46 (dk_at dksX1_thieving_3 23 rfl rfl)
theorem dX1_thieving_94 : decode cX1_thieving 94 = .ok (.iconst 1, 1) := dk_4 (dk_at dksX1_thieving_4 0 rfl rfl)
theorem dX1_thieving_95 : decode cX1_thieving 95 = .ok (.isub, 1) := dk_100 (dk_at dksX1_thieving_4 1 rfl rfl)
theorem dX1_thieving_96 : decode cX1_thieving 96 = .ok (.iand, 1) := dk_126 (dk_at dksX1_thieving_4 2 rfl rfl)
theorem dX1_thieving_97 : decode cX1_thieving 97 = .ok (.iastore, 1) := dk_79 (dk_at dksX1_thieving_4 3 rfl rfl)
theorem dX1_thieving_98 : decode cX1_thieving 98 = .ok (.iinc 4 1, 3) := dk_132 4 1 (dk_at dksX1_thieving_4 4 rfl rfl)
theorem dX1_thieving_101 : decode cX1_thieving 101 = .ok (.goto (-59), 3) := dk_167 255 197 (dk_at dksX1_thieving_4 7 rfl rfl)
theorem dX1_thieving_104 : decode cX1_thieving 104 = .ok (.return_, 1) := dk_177 (dk_at dksX1_thieving_4 10 rfl rfl)
abbrev cX1_passes : ByteArray := prog_1_method_71_code
def yX1_passes : MethodName := ⟨RX1, "passes", "(II)I"⟩
def dkwX1_passes_3 : List UInt8 := [167, 0, 4, 3, 128, 62, 132, 4, 1, 167, 255, 211, 29, 172]
abbrev dktX1_passes_3 : List UInt8 := dkwX1_passes_3 ++ []
def dkwX1_passes_2 : List UInt8 := [29, 42, 180, 0, 10, 180, 0, 109, 21, 4, 46, 27, 130, 184, 1, 121, 28, 163, 0, 10, 4, 21, 4, 120]
abbrev dktX1_passes_2 : List UInt8 := dkwX1_passes_2 ++ dktX1_passes_3
def dkwX1_passes_1 : List UInt8 := [167, 0, 4, 3, 184, 1, 161, 3, 62, 3, 54, 4, 21, 4, 42, 180, 0, 10, 180, 0, 102, 162, 0, 39]
abbrev dktX1_passes_1 : List UInt8 := dkwX1_passes_1 ++ dktX1_passes_2
def dkwX1_passes_0 : List UInt8 := [27, 3, 17, 0, 255, 184, 0, 91, 153, 0, 17, 28, 3, 16, 8, 184, 0, 91, 153, 0, 7, 4]
abbrev dktX1_passes_0 : List UInt8 := dkwX1_passes_0 ++ dktX1_passes_1
theorem dksX1_passes_0 : cX1_passes.data.toList.drop 0 = dktX1_passes_0 := by decide +kernel
theorem dksX1_passes_1 : cX1_passes.data.toList.drop 22 = dktX1_passes_1 := dk_seg dksX1_passes_0 22 rfl rfl
theorem dksX1_passes_2 : cX1_passes.data.toList.drop 46 = dktX1_passes_2 := dk_seg dksX1_passes_1 24 rfl rfl
theorem dksX1_passes_3 : cX1_passes.data.toList.drop 70 = dktX1_passes_3 := dk_seg dksX1_passes_2 24 rfl rfl
theorem dX1_passes_0 : decode cX1_passes 0 = .ok (.iload_n 1, 1) := dk_27 (dk_at dksX1_passes_0 0 rfl rfl)
theorem dX1_passes_1 : decode cX1_passes 1 = .ok (.iconst 0, 1) := dk_3 (dk_at dksX1_passes_0 1 rfl rfl)
theorem dX1_passes_2 : decode cX1_passes 2 = .ok (.sipush 255, 3) := dk_17 0 255 (dk_at dksX1_passes_0 2 rfl rfl)
theorem dX1_passes_5 : decode cX1_passes 5 = .ok (.invokestatic 91, 3) := dk_184 0 91 (dk_at dksX1_passes_0 5 rfl rfl)
theorem dX1_passes_8 : decode cX1_passes 8 = .ok (.ifCond .eq 17, 3) := dk_153 0 17 (dk_at dksX1_passes_0 8 rfl rfl)
theorem dX1_passes_11 : decode cX1_passes 11 = .ok (.iload_n 2, 1) := dk_28 (dk_at dksX1_passes_0 11 rfl rfl)
theorem dX1_passes_12 : decode cX1_passes 12 = .ok (.iconst 0, 1) := dk_3 (dk_at dksX1_passes_0 12 rfl rfl)
theorem dX1_passes_13 : decode cX1_passes 13 = .ok (.bipush 8, 2) := dk_16 8 (dk_at dksX1_passes_0 13 rfl rfl)
theorem dX1_passes_15 : decode cX1_passes 15 = .ok (.invokestatic 91, 3) := dk_184 0 91 (dk_at dksX1_passes_0 15 rfl rfl)
theorem dX1_passes_18 : decode cX1_passes 18 = .ok (.ifCond .eq 7, 3) := dk_153 0 7 (dk_at dksX1_passes_0 18 rfl rfl)
theorem dX1_passes_21 : decode cX1_passes 21 = .ok (.iconst 1, 1) := dk_4 (dk_at dksX1_passes_0 21 rfl rfl)
theorem dX1_passes_22 : decode cX1_passes 22 = .ok (.goto 4, 3) := dk_167 0 4 (dk_at dksX1_passes_1 0 rfl rfl)
theorem dX1_passes_25 : decode cX1_passes 25 = .ok (.iconst 0, 1) := dk_3 (dk_at dksX1_passes_1 3 rfl rfl)
theorem dX1_passes_26 : decode cX1_passes 26 = .ok (.invokestatic 417, 3) := dk_184 1 161 (dk_at dksX1_passes_1 4 rfl rfl)
theorem dX1_passes_29 : decode cX1_passes 29 = .ok (.iconst 0, 1) := dk_3 (dk_at dksX1_passes_1 7 rfl rfl)
theorem dX1_passes_30 : decode cX1_passes 30 = .ok (.istore_n 3, 1) := dk_62 (dk_at dksX1_passes_1 8 rfl rfl)
theorem dX1_passes_31 : decode cX1_passes 31 = .ok (.iconst 0, 1) := dk_3 (dk_at dksX1_passes_1 9 rfl rfl)
theorem dX1_passes_32 : decode cX1_passes 32 = .ok (.istore 4, 2) := dk_54 4 (dk_at dksX1_passes_1 10 rfl rfl)
theorem dX1_passes_34 : decode cX1_passes 34 = .ok (.iload 4, 2) := dk_21 4 (dk_at dksX1_passes_1 12 rfl rfl)
theorem dX1_passes_36 : decode cX1_passes 36 = .ok (.aload_n 0, 1) := dk_42 (dk_at dksX1_passes_1 14 rfl rfl)
theorem dX1_passes_37 : decode cX1_passes 37 = .ok (.getfield 10, 3) := dk_180 0 10 (dk_at dksX1_passes_1 15 rfl rfl)
theorem dX1_passes_40 : decode cX1_passes 40 = .ok (.getfield 102, 3) := dk_180 0 102 (dk_at dksX1_passes_1 18 rfl rfl)
theorem dX1_passes_43 : decode cX1_passes 43 = .ok (.if_icmp .ge 39, 3) := dk_162 0 39 (dk_at dksX1_passes_1 21 rfl rfl)
theorem dX1_passes_46 : decode cX1_passes 46 = .ok (.iload_n 3, 1) := dk_29 (dk_at dksX1_passes_2 0 rfl rfl)
theorem dX1_passes_47 : decode cX1_passes 47 = .ok (.aload_n 0, 1) := dk_42 (dk_at dksX1_passes_2 1 rfl rfl)
theorem dX1_passes_48 : decode cX1_passes 48 = .ok (.getfield 10, 3) := dk_180 0 10 (dk_at dksX1_passes_2 2 rfl rfl)
theorem dX1_passes_51 : decode cX1_passes 51 = .ok (.getfield 109, 3) := dk_180 0 109 (dk_at dksX1_passes_2 5 rfl rfl)
theorem dX1_passes_54 : decode cX1_passes 54 = .ok (.iload 4, 2) := dk_21 4 (dk_at dksX1_passes_2 8 rfl rfl)
theorem dX1_passes_56 : decode cX1_passes 56 = .ok (.iaload, 1) := dk_46 (dk_at dksX1_passes_2 10 rfl rfl)
theorem dX1_passes_57 : decode cX1_passes 57 = .ok (.iload_n 1, 1) := dk_27 (dk_at dksX1_passes_2 11 rfl rfl)
theorem dX1_passes_58 : decode cX1_passes 58 = .ok (.ixor, 1) := dk_130 (dk_at dksX1_passes_2 12 rfl rfl)
theorem dX1_passes_59 : decode cX1_passes 59 = .ok (.invokestatic 377, 3) := dk_184 1 121 (dk_at dksX1_passes_2 13 rfl rfl)
theorem dX1_passes_62 : decode cX1_passes 62 = .ok (.iload_n 2, 1) := dk_28 (dk_at dksX1_passes_2 16 rfl rfl)
theorem dX1_passes_63 : decode cX1_passes 63 = .ok (.if_icmp .gt 10, 3) := dk_163 0 10 (dk_at dksX1_passes_2 17 rfl rfl)
theorem dX1_passes_66 : decode cX1_passes 66 = .ok (.iconst 1, 1) := dk_4 (dk_at dksX1_passes_2 20 rfl rfl)
theorem dX1_passes_67 : decode cX1_passes 67 = .ok (.iload 4, 2) := dk_21 4 (dk_at dksX1_passes_2 21 rfl rfl)
theorem dX1_passes_69 : decode cX1_passes 69 = .ok (.ishl, 1) := dk_120 (dk_at dksX1_passes_2 23 rfl rfl)
theorem dX1_passes_70 : decode cX1_passes 70 = .ok (.goto 4, 3) := dk_167 0 4 (dk_at dksX1_passes_3 0 rfl rfl)
theorem dX1_passes_73 : decode cX1_passes 73 = .ok (.iconst 0, 1) := dk_3 (dk_at dksX1_passes_3 3 rfl rfl)
theorem dX1_passes_74 : decode cX1_passes 74 = .ok (.ior, 1) := dk_128 (dk_at dksX1_passes_3 4 rfl rfl)
theorem dX1_passes_75 : decode cX1_passes 75 = .ok (.istore_n 3, 1) := dk_62 (dk_at dksX1_passes_3 5 rfl rfl)
theorem dX1_passes_76 : decode cX1_passes 76 = .ok (.iinc 4 1, 3) := dk_132 4 1 (dk_at dksX1_passes_3 6 rfl rfl)
theorem dX1_passes_79 : decode cX1_passes 79 = .ok (.goto (-45), 3) := dk_167 255 211 (dk_at dksX1_passes_3 9 rfl rfl)
theorem dX1_passes_82 : decode cX1_passes 82 = .ok (.iload_n 3, 1) := dk_29 (dk_at dksX1_passes_3 12 rfl rfl)
theorem dX1_passes_83 : decode cX1_passes 83 = .ok (.ireturn, 1) := dk_172 (dk_at dksX1_passes_3 13 rfl rfl)
abbrev cX1_core : ByteArray := prog_1_method_72_code
def yX1_core : MethodName := ⟨RX1, "core", "(I)I"⟩
def dkwX1_core_0 : List UInt8 := [42, 27, 182, 1, 158, 42, 180, 0, 48, 182, 2, 10, 180, 2, 14, 27, 46, 172]
abbrev dktX1_core_0 : List UInt8 := dkwX1_core_0 ++ []
theorem dksX1_core_0 : cX1_core.data.toList.drop 0 = dktX1_core_0 := by decide +kernel
theorem dX1_core_0 : decode cX1_core 0 = .ok (.aload_n 0, 1) := dk_42 (dk_at dksX1_core_0 0 rfl rfl)
theorem dX1_core_1 : decode cX1_core 1 = .ok (.iload_n 1, 1) := dk_27 (dk_at dksX1_core_0 1 rfl rfl)
theorem dX1_core_2 : decode cX1_core 2 = .ok (.invokevirtual 414, 3) := dk_182 1 158 (dk_at dksX1_core_0 2 rfl rfl)
theorem dX1_core_5 : decode cX1_core 5 = .ok (.aload_n 0, 1) := dk_42 (dk_at dksX1_core_0 5 rfl rfl)
theorem dX1_core_6 : decode cX1_core 6 = .ok (.getfield 48, 3) := dk_180 0 48 (dk_at dksX1_core_0 6 rfl rfl)
theorem dX1_core_9 : decode cX1_core 9 = .ok (.invokevirtual 522, 3) := dk_182 2 10 (dk_at dksX1_core_0 9 rfl rfl)
theorem dX1_core_12 : decode cX1_core 12 = .ok (.getfield 526, 3) := dk_180 2 14 (dk_at dksX1_core_0 12 rfl rfl)
theorem dX1_core_15 : decode cX1_core 15 = .ok (.iload_n 1, 1) := dk_27 (dk_at dksX1_core_0 15 rfl rfl)
theorem dX1_core_16 : decode cX1_core 16 = .ok (.iaload, 1) := dk_46 (dk_at dksX1_core_0 16 rfl rfl)
theorem dX1_core_17 : decode cX1_core 17 = .ok (.ireturn, 1) := dk_172 (dk_at dksX1_core_0 17 rfl rfl)
abbrev cX1_block : ByteArray := prog_1_method_75_code
def yX1_block : MethodName := ⟨RX1, "block", "(I)Z"⟩
def dkwX1_block_5 : List UInt8 := [28, 153, 0, 7, 4, 167, 0, 4, 3, 172]
abbrev dktX1_block_5 : List UInt8 := dkwX1_block_5 ++ []
def dkwX1_block_4 : List UInt8 := [182, 2, 23, 154, 0, 12, 28, 4, 21, 4, 120, 2, 130, 126, 61, 132, 4, 1, 167, 255, 213, 167, 255, 200]
abbrev dktX1_block_4 : List UInt8 := dkwX1_block_4 ++ dktX1_block_5
def dkwX1_block_3 : List UInt8 := [42, 180, 0, 10, 180, 0, 102, 162, 0, 37, 28, 21, 4, 184, 1, 167, 153, 0, 22, 42, 21, 4, 28]
abbrev dktX1_block_3 : List UInt8 := dkwX1_block_3 ++ dktX1_block_4
def dkwX1_block_2 : List UInt8 := [3, 184, 1, 195, 132, 3, 1, 167, 255, 213, 2, 62, 28, 29, 159, 0, 57, 28, 62, 3, 54, 4, 21, 4]
abbrev dktX1_block_2 : List UInt8 := dkwX1_block_2 ++ dktX1_block_3
def dkwX1_block_1 : List UInt8 := [29, 184, 1, 167, 153, 0, 16, 42, 180, 0, 10, 180, 0, 120, 29, 46, 2, 159, 0, 7, 4, 167, 0, 4]
abbrev dktX1_block_1 : List UInt8 := dkwX1_block_1 ++ dktX1_block_2
def dkwX1_block_0 : List UInt8 := [27, 42, 180, 0, 10, 182, 2, 20, 126, 61, 3, 62, 29, 42, 180, 0, 10, 180, 0, 102, 162, 0, 38, 28]
abbrev dktX1_block_0 : List UInt8 := dkwX1_block_0 ++ dktX1_block_1
theorem dksX1_block_0 : cX1_block.data.toList.drop 0 = dktX1_block_0 := by decide +kernel
theorem dksX1_block_1 : cX1_block.data.toList.drop 24 = dktX1_block_1 := dk_seg dksX1_block_0 24 rfl rfl
theorem dksX1_block_2 : cX1_block.data.toList.drop 48 = dktX1_block_2 := dk_seg dksX1_block_1 24 rfl rfl
theorem dksX1_block_3 : cX1_block.data.toList.drop 72 = dktX1_block_3 := dk_seg dksX1_block_2 24 rfl rfl
theorem dksX1_block_4 : cX1_block.data.toList.drop 95 = dktX1_block_4 := dk_seg dksX1_block_3 23 rfl rfl
theorem dksX1_block_5 : cX1_block.data.toList.drop 119 = dktX1_block_5 := dk_seg dksX1_block_4 24 rfl rfl
theorem dX1_block_0 : decode cX1_block 0 = .ok (.iload_n 1, 1) := dk_27 (dk_at dksX1_block_0 0 rfl rfl)
theorem dX1_block_1 : decode cX1_block 1 = .ok (.aload_n 0, 1) := dk_42 (dk_at dksX1_block_0 1 rfl rfl)
theorem dX1_block_2 : decode cX1_block 2 = .ok (.getfield 10, 3) := dk_180 0 10 (dk_at dksX1_block_0 2 rfl rfl)
theorem dX1_block_5 : decode cX1_block 5 = .ok (.invokevirtual 532, 3) := dk_182 2 20 (dk_at dksX1_block_0 5 rfl rfl)
theorem dX1_block_8 : decode cX1_block 8 = .ok (.iand, 1) := dk_126 (dk_at dksX1_block_0 8 rfl rfl)
theorem dX1_block_9 : decode cX1_block 9 = .ok (.istore_n 2, 1) := dk_61 (dk_at dksX1_block_0 9 rfl rfl)
theorem dX1_block_10 : decode cX1_block 10 = .ok (.iconst 0, 1) := dk_3 (dk_at dksX1_block_0 10 rfl rfl)
theorem dX1_block_11 : decode cX1_block 11 = .ok (.istore_n 3, 1) := dk_62 (dk_at dksX1_block_0 11 rfl rfl)
theorem dX1_block_12 : decode cX1_block 12 = .ok (.iload_n 3, 1) := dk_29 (dk_at dksX1_block_0 12 rfl rfl)
theorem dX1_block_13 : decode cX1_block 13 = .ok (.aload_n 0, 1) := dk_42 (dk_at dksX1_block_0 13 rfl rfl)
theorem dX1_block_14 : decode cX1_block 14 = .ok (.getfield 10, 3) := dk_180 0 10 (dk_at dksX1_block_0 14 rfl rfl)
theorem dX1_block_17 : decode cX1_block 17 = .ok (.getfield 102, 3) := dk_180 0 102 (dk_at dksX1_block_0 17 rfl rfl)
theorem dX1_block_20 : decode cX1_block 20 = .ok (.if_icmp .ge 38, 3) := dk_162 0 38 (dk_at dksX1_block_0 20 rfl rfl)
theorem dX1_block_23 : decode cX1_block 23 = .ok (.iload_n 2, 1) := dk_28 (dk_at dksX1_block_0 23 rfl rfl)
theorem dX1_block_24 : decode cX1_block 24 = .ok (.iload_n 3, 1) := dk_29 (dk_at dksX1_block_1 0 rfl rfl)
theorem dX1_block_25 : decode cX1_block 25 = .ok (.invokestatic 423, 3) := dk_184 1 167 (dk_at dksX1_block_1 1 rfl rfl)
theorem dX1_block_28 : decode cX1_block 28 = .ok (.ifCond .eq 16, 3) := dk_153 0 16 (dk_at dksX1_block_1 4 rfl rfl)
theorem dX1_block_31 : decode cX1_block 31 = .ok (.aload_n 0, 1) := dk_42 (dk_at dksX1_block_1 7 rfl rfl)
theorem dX1_block_32 : decode cX1_block 32 = .ok (.getfield 10, 3) := dk_180 0 10 (dk_at dksX1_block_1 8 rfl rfl)
theorem dX1_block_35 : decode cX1_block 35 = .ok (.getfield 120, 3) := dk_180 0 120 (dk_at dksX1_block_1 11 rfl rfl)
theorem dX1_block_38 : decode cX1_block 38 = .ok (.iload_n 3, 1) := dk_29 (dk_at dksX1_block_1 14 rfl rfl)
theorem dX1_block_39 : decode cX1_block 39 = .ok (.iaload, 1) := dk_46 (dk_at dksX1_block_1 15 rfl rfl)
theorem dX1_block_40 : decode cX1_block 40 = .ok (.iconst (-1), 1) := dk_2 (dk_at dksX1_block_1 16 rfl rfl)
theorem dX1_block_41 : decode cX1_block 41 = .ok (.if_icmp .eq 7, 3) := dk_159 0 7 (dk_at dksX1_block_1 17 rfl rfl)
theorem dX1_block_44 : decode cX1_block 44 = .ok (.iconst 1, 1) := dk_4 (dk_at dksX1_block_1 20 rfl rfl)
theorem dX1_block_45 : decode cX1_block 45 = .ok (.goto 4, 3) := dk_167 0 4 (dk_at dksX1_block_1 21 rfl rfl)
theorem dX1_block_48 : decode cX1_block 48 = .ok (.iconst 0, 1) := dk_3 (dk_at dksX1_block_2 0 rfl rfl)
theorem dX1_block_49 : decode cX1_block 49 = .ok (.invokestatic 451, 3) := dk_184 1 195 (dk_at dksX1_block_2 1 rfl rfl)
theorem dX1_block_52 : decode cX1_block 52 = .ok (.iinc 3 1, 3) := dk_132 3 1 (dk_at dksX1_block_2 4 rfl rfl)
theorem dX1_block_55 : decode cX1_block 55 = .ok (.goto (-43), 3) := dk_167 255 213 (dk_at dksX1_block_2 7 rfl rfl)
theorem dX1_block_58 : decode cX1_block 58 = .ok (.iconst (-1), 1) := dk_2 (dk_at dksX1_block_2 10 rfl rfl)
theorem dX1_block_59 : decode cX1_block 59 = .ok (.istore_n 3, 1) := dk_62 (dk_at dksX1_block_2 11 rfl rfl)
theorem dX1_block_60 : decode cX1_block 60 = .ok (.iload_n 2, 1) := dk_28 (dk_at dksX1_block_2 12 rfl rfl)
theorem dX1_block_61 : decode cX1_block 61 = .ok (.iload_n 3, 1) := dk_29 (dk_at dksX1_block_2 13 rfl rfl)
theorem dX1_block_62 : decode cX1_block 62 = .ok (.if_icmp .eq 57, 3) := dk_159 0 57 (dk_at dksX1_block_2 14 rfl rfl)
theorem dX1_block_65 : decode cX1_block 65 = .ok (.iload_n 2, 1) := dk_28 (dk_at dksX1_block_2 17 rfl rfl)
theorem dX1_block_66 : decode cX1_block 66 = .ok (.istore_n 3, 1) := dk_62 (dk_at dksX1_block_2 18 rfl rfl)
theorem dX1_block_67 : decode cX1_block 67 = .ok (.iconst 0, 1) := dk_3 (dk_at dksX1_block_2 19 rfl rfl)
theorem dX1_block_68 : decode cX1_block 68 = .ok (.istore 4, 2) := dk_54 4 (dk_at dksX1_block_2 20 rfl rfl)
theorem dX1_block_70 : decode cX1_block 70 = .ok (.iload 4, 2) := dk_21 4 (dk_at dksX1_block_2 22 rfl rfl)
theorem dX1_block_72 : decode cX1_block 72 = .ok (.aload_n 0, 1) := dk_42 (dk_at dksX1_block_3 0 rfl rfl)
theorem dX1_block_73 : decode cX1_block 73 = .ok (.getfield 10, 3) := dk_180 0 10 (dk_at dksX1_block_3 1 rfl rfl)
theorem dX1_block_76 : decode cX1_block 76 = .ok (.getfield 102, 3) := dk_180 0 102 (dk_at dksX1_block_3 4 rfl rfl)
theorem dX1_block_79 : decode cX1_block 79 = .ok (.if_icmp .ge 37, 3) := dk_162 0 37 (dk_at dksX1_block_3 7 rfl rfl)
theorem dX1_block_82 : decode cX1_block 82 = .ok (.iload_n 2, 1) := dk_28 (dk_at dksX1_block_3 10 rfl rfl)
theorem dX1_block_83 : decode cX1_block 83 = .ok (.iload 4, 2) := dk_21 4 (dk_at dksX1_block_3 11 rfl rfl)
theorem dX1_block_85 : decode cX1_block 85 = .ok (.invokestatic 423, 3) := dk_184 1 167 (dk_at dksX1_block_3 13 rfl rfl)
theorem dX1_block_88 : decode cX1_block 88 = .ok (.ifCond .eq 22, 3) := dk_153 0 22 (dk_at dksX1_block_3 16 rfl rfl)
theorem dX1_block_91 : decode cX1_block 91 = .ok (.aload_n 0, 1) := dk_42 (dk_at dksX1_block_3 19 rfl rfl)
theorem dX1_block_92 : decode cX1_block 92 = .ok (.iload 4, 2) := dk_21 4 (dk_at dksX1_block_3 20 rfl rfl)
theorem dX1_block_94 : decode cX1_block 94 = .ok (.iload_n 2, 1) := dk_28 (dk_at dksX1_block_3 22 rfl rfl)
theorem dX1_block_95 : decode cX1_block 95 = .ok (.invokevirtual 535, 3) := dk_182 2 23 (dk_at dksX1_block_4 0 rfl rfl)
theorem dX1_block_98 : decode cX1_block 98 = .ok (.ifCond .ne 12, 3) := dk_154 0 12 (dk_at dksX1_block_4 3 rfl rfl)
theorem dX1_block_101 : decode cX1_block 101 = .ok (.iload_n 2, 1) := dk_28 (dk_at dksX1_block_4 6 rfl rfl)
theorem dX1_block_102 : decode cX1_block 102 = .ok (.iconst 1, 1) := dk_4 (dk_at dksX1_block_4 7 rfl rfl)
theorem dX1_block_103 : decode cX1_block 103 = .ok (.iload 4, 2) := dk_21 4 (dk_at dksX1_block_4 8 rfl rfl)
theorem dX1_block_105 : decode cX1_block 105 = .ok (.ishl, 1) := dk_120 (dk_at dksX1_block_4 10 rfl rfl)
theorem dX1_block_106 : decode cX1_block 106 = .ok (.iconst (-1), 1) := dk_2 (dk_at dksX1_block_4 11 rfl rfl)
theorem dX1_block_107 : decode cX1_block 107 = .ok (.ixor, 1) := dk_130 (dk_at dksX1_block_4 12 rfl rfl)
theorem dX1_block_108 : decode cX1_block 108 = .ok (.iand, 1) := dk_126 (dk_at dksX1_block_4 13 rfl rfl)
theorem dX1_block_109 : decode cX1_block 109 = .ok (.istore_n 2, 1) := dk_61 (dk_at dksX1_block_4 14 rfl rfl)
theorem dX1_block_110 : decode cX1_block 110 = .ok (.iinc 4 1, 3) := dk_132 4 1 (dk_at dksX1_block_4 15 rfl rfl)
theorem dX1_block_113 : decode cX1_block 113 = .ok (.goto (-43), 3) := dk_167 255 213 (dk_at dksX1_block_4 18 rfl rfl)
theorem dX1_block_116 : decode cX1_block 116 = .ok (.goto (-56), 3) := dk_167 255 200 (dk_at dksX1_block_4 21 rfl rfl)
theorem dX1_block_119 : decode cX1_block 119 = .ok (.iload_n 2, 1) := dk_28 (dk_at dksX1_block_5 0 rfl rfl)
theorem dX1_block_120 : decode cX1_block 120 = .ok (.ifCond .eq 7, 3) := dk_153 0 7 (dk_at dksX1_block_5 1 rfl rfl)
theorem dX1_block_123 : decode cX1_block 123 = .ok (.iconst 1, 1) := dk_4 (dk_at dksX1_block_5 4 rfl rfl)
theorem dX1_block_124 : decode cX1_block 124 = .ok (.goto 4, 3) := dk_167 0 4 (dk_at dksX1_block_5 5 rfl rfl)
theorem dX1_block_127 : decode cX1_block 127 = .ok (.iconst 0, 1) := dk_3 (dk_at dksX1_block_5 8 rfl rfl)
theorem dX1_block_128 : decode cX1_block 128 = .ok (.ireturn, 1) := dk_172 (dk_at dksX1_block_5 9 rfl rfl)
abbrev cX1_takesFrom : ByteArray := prog_1_method_76_code
def yX1_takesFrom : MethodName := ⟨RX1, "takesFrom", "(II)Z"⟩
def dkwX1_takesFrom_1 : List UInt8 := [153, 0, 14, 42, 27, 29, 182, 2, 26, 153, 0, 5, 4, 172, 132, 3, 1, 167, 255, 218, 3, 172]
abbrev dktX1_takesFrom_1 : List UInt8 := dkwX1_takesFrom_1 ++ []
def dkwX1_takesFrom_0 : List UInt8 := [3, 62, 29, 42, 180, 0, 10, 180, 0, 102, 162, 0, 33, 29, 27, 159, 0, 22, 28, 29, 184, 1, 167]
abbrev dktX1_takesFrom_0 : List UInt8 := dkwX1_takesFrom_0 ++ dktX1_takesFrom_1
theorem dksX1_takesFrom_0 : cX1_takesFrom.data.toList.drop 0 = dktX1_takesFrom_0 := by decide +kernel
theorem dksX1_takesFrom_1 : cX1_takesFrom.data.toList.drop 23 = dktX1_takesFrom_1 := dk_seg dksX1_takesFrom_0 23 rfl rfl
theorem dX1_takesFrom_0 : decode cX1_takesFrom 0 = .ok (.iconst 0, 1) := dk_3 (dk_at dksX1_takesFrom_0 0 rfl rfl)
theorem dX1_takesFrom_1 : decode cX1_takesFrom 1 = .ok (.istore_n 3, 1) := dk_62 (dk_at dksX1_takesFrom_0 1 rfl rfl)
theorem dX1_takesFrom_2 : decode cX1_takesFrom 2 = .ok (.iload_n 3, 1) := dk_29 (dk_at dksX1_takesFrom_0 2 rfl rfl)
theorem dX1_takesFrom_3 : decode cX1_takesFrom 3 = .ok (.aload_n 0, 1) := dk_42 (dk_at dksX1_takesFrom_0 3 rfl rfl)
theorem dX1_takesFrom_4 : decode cX1_takesFrom 4 = .ok (.getfield 10, 3) := dk_180 0 10 (dk_at dksX1_takesFrom_0 4 rfl rfl)
theorem dX1_takesFrom_7 : decode cX1_takesFrom 7 = .ok (.getfield 102, 3) := dk_180 0 102 (dk_at dksX1_takesFrom_0 7 rfl rfl)
theorem dX1_takesFrom_10 : decode cX1_takesFrom 10 = .ok (.if_icmp .ge 33, 3) := dk_162 0 33 (dk_at dksX1_takesFrom_0 10 rfl rfl)
theorem dX1_takesFrom_13 : decode cX1_takesFrom 13 = .ok (.iload_n 3, 1) := dk_29 (dk_at dksX1_takesFrom_0 13 rfl rfl)
theorem dX1_takesFrom_14 : decode cX1_takesFrom 14 = .ok (.iload_n 1, 1) := dk_27 (dk_at dksX1_takesFrom_0 14 rfl rfl)
theorem dX1_takesFrom_15 : decode cX1_takesFrom 15 = .ok (.if_icmp .eq 22, 3) := dk_159 0 22 (dk_at dksX1_takesFrom_0 15 rfl rfl)
theorem dX1_takesFrom_18 : decode cX1_takesFrom 18 = .ok (.iload_n 2, 1) := dk_28 (dk_at dksX1_takesFrom_0 18 rfl rfl)
theorem dX1_takesFrom_19 : decode cX1_takesFrom 19 = .ok (.iload_n 3, 1) := dk_29 (dk_at dksX1_takesFrom_0 19 rfl rfl)
theorem dX1_takesFrom_20 : decode cX1_takesFrom 20 = .ok (.invokestatic 423, 3) := dk_184 1 167 (dk_at dksX1_takesFrom_0 20 rfl rfl)
theorem dX1_takesFrom_23 : decode cX1_takesFrom 23 = .ok (.ifCond .eq 14, 3) := dk_153 0 14 (dk_at dksX1_takesFrom_1 0 rfl rfl)
theorem dX1_takesFrom_26 : decode cX1_takesFrom 26 = .ok (.aload_n 0, 1) := dk_42 (dk_at dksX1_takesFrom_1 3 rfl rfl)
theorem dX1_takesFrom_27 : decode cX1_takesFrom 27 = .ok (.iload_n 1, 1) := dk_27 (dk_at dksX1_takesFrom_1 4 rfl rfl)
theorem dX1_takesFrom_28 : decode cX1_takesFrom 28 = .ok (.iload_n 3, 1) := dk_29 (dk_at dksX1_takesFrom_1 5 rfl rfl)
theorem dX1_takesFrom_29 : decode cX1_takesFrom 29 = .ok (.invokevirtual 538, 3) := dk_182 2 26 (dk_at dksX1_takesFrom_1 6 rfl rfl)
theorem dX1_takesFrom_32 : decode cX1_takesFrom 32 = .ok (.ifCond .eq 5, 3) := dk_153 0 5 (dk_at dksX1_takesFrom_1 9 rfl rfl)
theorem dX1_takesFrom_35 : decode cX1_takesFrom 35 = .ok (.iconst 1, 1) := dk_4 (dk_at dksX1_takesFrom_1 12 rfl rfl)
theorem dX1_takesFrom_36 : decode cX1_takesFrom 36 = .ok (.ireturn, 1) := dk_172 (dk_at dksX1_takesFrom_1 13 rfl rfl)
theorem dX1_takesFrom_37 : decode cX1_takesFrom 37 = .ok (.iinc 3 1, 3) := dk_132 3 1 (dk_at dksX1_takesFrom_1 14 rfl rfl)
theorem dX1_takesFrom_40 : decode cX1_takesFrom 40 = .ok (.goto (-38), 3) := dk_167 255 218 (dk_at dksX1_takesFrom_1 17 rfl rfl)
theorem dX1_takesFrom_43 : decode cX1_takesFrom 43 = .ok (.iconst 0, 1) := dk_3 (dk_at dksX1_takesFrom_1 20 rfl rfl)
theorem dX1_takesFrom_44 : decode cX1_takesFrom 44 = .ok (.ireturn, 1) := dk_172 (dk_at dksX1_takesFrom_1 21 rfl rfl)
abbrev cX1_rather : ByteArray := prog_1_method_74_code
def yX1_rather : MethodName := ⟨RX1, "rather", "(II)Z"⟩
def dkwX1_rather_1 : List UInt8 := [180, 0, 10, 180, 0, 120, 27, 46, 182, 2, 17, 162, 0, 7, 4, 167, 0, 4, 3, 172]
abbrev dktX1_rather_1 : List UInt8 := dkwX1_rather_1 ++ []
def dkwX1_rather_0 : List UInt8 := [42, 180, 0, 10, 27, 42, 180, 0, 10, 180, 0, 120, 28, 46, 182, 2, 17, 42, 180, 0, 10, 27, 42]
abbrev dktX1_rather_0 : List UInt8 := dkwX1_rather_0 ++ dktX1_rather_1
theorem dksX1_rather_0 : cX1_rather.data.toList.drop 0 = dktX1_rather_0 := by decide +kernel
theorem dksX1_rather_1 : cX1_rather.data.toList.drop 23 = dktX1_rather_1 := dk_seg dksX1_rather_0 23 rfl rfl
theorem dX1_rather_0 : decode cX1_rather 0 = .ok (.aload_n 0, 1) := dk_42 (dk_at dksX1_rather_0 0 rfl rfl)
theorem dX1_rather_1 : decode cX1_rather 1 = .ok (.getfield 10, 3) := dk_180 0 10 (dk_at dksX1_rather_0 1 rfl rfl)
theorem dX1_rather_4 : decode cX1_rather 4 = .ok (.iload_n 1, 1) := dk_27 (dk_at dksX1_rather_0 4 rfl rfl)
theorem dX1_rather_5 : decode cX1_rather 5 = .ok (.aload_n 0, 1) := dk_42 (dk_at dksX1_rather_0 5 rfl rfl)
theorem dX1_rather_6 : decode cX1_rather 6 = .ok (.getfield 10, 3) := dk_180 0 10 (dk_at dksX1_rather_0 6 rfl rfl)
theorem dX1_rather_9 : decode cX1_rather 9 = .ok (.getfield 120, 3) := dk_180 0 120 (dk_at dksX1_rather_0 9 rfl rfl)
theorem dX1_rather_12 : decode cX1_rather 12 = .ok (.iload_n 2, 1) := dk_28 (dk_at dksX1_rather_0 12 rfl rfl)
theorem dX1_rather_13 : decode cX1_rather 13 = .ok (.iaload, 1) := dk_46 (dk_at dksX1_rather_0 13 rfl rfl)
theorem dX1_rather_14 : decode cX1_rather 14 = .ok (.invokevirtual 529, 3) := dk_182 2 17 (dk_at dksX1_rather_0 14 rfl rfl)
theorem dX1_rather_17 : decode cX1_rather 17 = .ok (.aload_n 0, 1) := dk_42 (dk_at dksX1_rather_0 17 rfl rfl)
theorem dX1_rather_18 : decode cX1_rather 18 = .ok (.getfield 10, 3) := dk_180 0 10 (dk_at dksX1_rather_0 18 rfl rfl)
theorem dX1_rather_21 : decode cX1_rather 21 = .ok (.iload_n 1, 1) := dk_27 (dk_at dksX1_rather_0 21 rfl rfl)
theorem dX1_rather_22 : decode cX1_rather 22 = .ok (.aload_n 0, 1) := dk_42 (dk_at dksX1_rather_0 22 rfl rfl)
theorem dX1_rather_23 : decode cX1_rather 23 = .ok (.getfield 10, 3) := dk_180 0 10 (dk_at dksX1_rather_1 0 rfl rfl)
theorem dX1_rather_26 : decode cX1_rather 26 = .ok (.getfield 120, 3) := dk_180 0 120 (dk_at dksX1_rather_1 3 rfl rfl)
theorem dX1_rather_29 : decode cX1_rather 29 = .ok (.iload_n 1, 1) := dk_27 (dk_at dksX1_rather_1 6 rfl rfl)
theorem dX1_rather_30 : decode cX1_rather 30 = .ok (.iaload, 1) := dk_46 (dk_at dksX1_rather_1 7 rfl rfl)
theorem dX1_rather_31 : decode cX1_rather 31 = .ok (.invokevirtual 529, 3) := dk_182 2 17 (dk_at dksX1_rather_1 8 rfl rfl)
theorem dX1_rather_34 : decode cX1_rather 34 = .ok (.if_icmp .ge 7, 3) := dk_162 0 7 (dk_at dksX1_rather_1 11 rfl rfl)
theorem dX1_rather_37 : decode cX1_rather 37 = .ok (.iconst 1, 1) := dk_4 (dk_at dksX1_rather_1 14 rfl rfl)
theorem dX1_rather_38 : decode cX1_rather 38 = .ok (.goto 4, 3) := dk_167 0 4 (dk_at dksX1_rather_1 15 rfl rfl)
theorem dX1_rather_41 : decode cX1_rather 41 = .ok (.iconst 0, 1) := dk_3 (dk_at dksX1_rather_1 18 rfl rfl)
theorem dX1_rather_42 : decode cX1_rather 42 = .ok (.ireturn, 1) := dk_172 (dk_at dksX1_rather_1 19 rfl rfl)
abbrev cX1_fits : ByteArray := prog_1_method_79_code
def yX1_fits : MethodName := ⟨RX1, "fits", "(I)I"⟩
def dkwX1_fits_3 : List UInt8 := [132, 3, 1, 167, 255, 223, 2, 172]
abbrev dktX1_fits_3 : List UInt8 := dkwX1_fits_3 ++ []
def dkwX1_fits_2 : List UInt8 := [162, 0, 28, 28, 158, 0, 24, 42, 180, 0, 55, 27, 29, 182, 2, 49, 28, 160, 0, 5, 29, 172]
abbrev dktX1_fits_2 : List UInt8 := dkwX1_fits_2 ++ dktX1_fits_3
def dkwX1_fits_1 : List UInt8 := [180, 0, 55, 182, 2, 46, 61, 27, 2, 160, 0, 5, 28, 172, 3, 62, 29, 42, 180, 0, 10, 180, 0, 102]
abbrev dktX1_fits_1 : List UInt8 := dkwX1_fits_1 ++ dktX1_fits_2
def dkwX1_fits_0 : List UInt8 := [27, 2, 159, 0, 8, 42, 27, 182, 2, 36, 42, 180, 0, 55, 42, 182, 2, 39, 182, 2, 42, 87, 42]
abbrev dktX1_fits_0 : List UInt8 := dkwX1_fits_0 ++ dktX1_fits_1
theorem dksX1_fits_0 : cX1_fits.data.toList.drop 0 = dktX1_fits_0 := by decide +kernel
theorem dksX1_fits_1 : cX1_fits.data.toList.drop 23 = dktX1_fits_1 := dk_seg dksX1_fits_0 23 rfl rfl
theorem dksX1_fits_2 : cX1_fits.data.toList.drop 47 = dktX1_fits_2 := dk_seg dksX1_fits_1 24 rfl rfl
theorem dksX1_fits_3 : cX1_fits.data.toList.drop 69 = dktX1_fits_3 := dk_seg dksX1_fits_2 22 rfl rfl
theorem dX1_fits_0 : decode cX1_fits 0 = .ok (.iload_n 1, 1) := dk_27 (dk_at dksX1_fits_0 0 rfl rfl)
theorem dX1_fits_1 : decode cX1_fits 1 = .ok (.iconst (-1), 1) := dk_2 (dk_at dksX1_fits_0 1 rfl rfl)
theorem dX1_fits_2 : decode cX1_fits 2 = .ok (.if_icmp .eq 8, 3) := dk_159 0 8 (dk_at dksX1_fits_0 2 rfl rfl)
theorem dX1_fits_5 : decode cX1_fits 5 = .ok (.aload_n 0, 1) := dk_42 (dk_at dksX1_fits_0 5 rfl rfl)
theorem dX1_fits_6 : decode cX1_fits 6 = .ok (.iload_n 1, 1) := dk_27 (dk_at dksX1_fits_0 6 rfl rfl)
theorem dX1_fits_7 : decode cX1_fits 7 = .ok (.invokevirtual 548, 3) := dk_182 2 36 (dk_at dksX1_fits_0 7 rfl rfl)
theorem dX1_fits_10 : decode cX1_fits 10 = .ok (.aload_n 0, 1) := dk_42 (dk_at dksX1_fits_0 10 rfl rfl)
theorem dX1_fits_11 : decode cX1_fits 11 = .ok (.getfield 55, 3) := dk_180 0 55 (dk_at dksX1_fits_0 11 rfl rfl)
theorem dX1_fits_14 : decode cX1_fits 14 = .ok (.aload_n 0, 1) := dk_42 (dk_at dksX1_fits_0 14 rfl rfl)
theorem dX1_fits_15 : decode cX1_fits 15 = .ok (.invokevirtual 551, 3) := dk_182 2 39 (dk_at dksX1_fits_0 15 rfl rfl)
theorem dX1_fits_18 : decode cX1_fits 18 = .ok (.invokevirtual 554, 3) := dk_182 2 42 (dk_at dksX1_fits_0 18 rfl rfl)
theorem dX1_fits_21 : decode cX1_fits 21 = .ok (.pop, 1) := dk_87 (dk_at dksX1_fits_0 21 rfl rfl)
theorem dX1_fits_22 : decode cX1_fits 22 = .ok (.aload_n 0, 1) := dk_42 (dk_at dksX1_fits_0 22 rfl rfl)
theorem dX1_fits_23 : decode cX1_fits 23 = .ok (.getfield 55, 3) := dk_180 0 55 (dk_at dksX1_fits_1 0 rfl rfl)
theorem dX1_fits_26 : decode cX1_fits 26 = .ok (.invokevirtual 558, 3) := dk_182 2 46 (dk_at dksX1_fits_1 3 rfl rfl)
theorem dX1_fits_29 : decode cX1_fits 29 = .ok (.istore_n 2, 1) := dk_61 (dk_at dksX1_fits_1 6 rfl rfl)
theorem dX1_fits_30 : decode cX1_fits 30 = .ok (.iload_n 1, 1) := dk_27 (dk_at dksX1_fits_1 7 rfl rfl)
theorem dX1_fits_31 : decode cX1_fits 31 = .ok (.iconst (-1), 1) := dk_2 (dk_at dksX1_fits_1 8 rfl rfl)
theorem dX1_fits_32 : decode cX1_fits 32 = .ok (.if_icmp .ne 5, 3) := dk_160 0 5 (dk_at dksX1_fits_1 9 rfl rfl)
theorem dX1_fits_35 : decode cX1_fits 35 = .ok (.iload_n 2, 1) := dk_28 (dk_at dksX1_fits_1 12 rfl rfl)
theorem dX1_fits_36 : decode cX1_fits 36 = .ok (.ireturn, 1) := dk_172 (dk_at dksX1_fits_1 13 rfl rfl)
theorem dX1_fits_37 : decode cX1_fits 37 = .ok (.iconst 0, 1) := dk_3 (dk_at dksX1_fits_1 14 rfl rfl)
theorem dX1_fits_38 : decode cX1_fits 38 = .ok (.istore_n 3, 1) := dk_62 (dk_at dksX1_fits_1 15 rfl rfl)
theorem dX1_fits_39 : decode cX1_fits 39 = .ok (.iload_n 3, 1) := dk_29 (dk_at dksX1_fits_1 16 rfl rfl)
theorem dX1_fits_40 : decode cX1_fits 40 = .ok (.aload_n 0, 1) := dk_42 (dk_at dksX1_fits_1 17 rfl rfl)
theorem dX1_fits_41 : decode cX1_fits 41 = .ok (.getfield 10, 3) := dk_180 0 10 (dk_at dksX1_fits_1 18 rfl rfl)
theorem dX1_fits_44 : decode cX1_fits 44 = .ok (.getfield 102, 3) := dk_180 0 102 (dk_at dksX1_fits_1 21 rfl rfl)
theorem dX1_fits_47 : decode cX1_fits 47 = .ok (.if_icmp .ge 28, 3) := dk_162 0 28 (dk_at dksX1_fits_2 0 rfl rfl)
theorem dX1_fits_50 : decode cX1_fits 50 = .ok (.iload_n 2, 1) := dk_28 (dk_at dksX1_fits_2 3 rfl rfl)
theorem dX1_fits_51 : decode cX1_fits 51 = .ok (.ifCond .le 24, 3) := dk_158 0 24 (dk_at dksX1_fits_2 4 rfl rfl)
theorem dX1_fits_54 : decode cX1_fits 54 = .ok (.aload_n 0, 1) := dk_42 (dk_at dksX1_fits_2 7 rfl rfl)
theorem dX1_fits_55 : decode cX1_fits 55 = .ok (.getfield 55, 3) := dk_180 0 55 (dk_at dksX1_fits_2 8 rfl rfl)
theorem dX1_fits_58 : decode cX1_fits 58 = .ok (.iload_n 1, 1) := dk_27 (dk_at dksX1_fits_2 11 rfl rfl)
theorem dX1_fits_59 : decode cX1_fits 59 = .ok (.iload_n 3, 1) := dk_29 (dk_at dksX1_fits_2 12 rfl rfl)
theorem dX1_fits_60 : decode cX1_fits 60 = .ok (.invokevirtual 561, 3) := dk_182 2 49 (dk_at dksX1_fits_2 13 rfl rfl)
theorem dX1_fits_63 : decode cX1_fits 63 = .ok (.iload_n 2, 1) := dk_28 (dk_at dksX1_fits_2 16 rfl rfl)
theorem dX1_fits_64 : decode cX1_fits 64 = .ok (.if_icmp .ne 5, 3) := dk_160 0 5 (dk_at dksX1_fits_2 17 rfl rfl)
theorem dX1_fits_67 : decode cX1_fits 67 = .ok (.iload_n 3, 1) := dk_29 (dk_at dksX1_fits_2 20 rfl rfl)
theorem dX1_fits_68 : decode cX1_fits 68 = .ok (.ireturn, 1) := dk_172 (dk_at dksX1_fits_2 21 rfl rfl)
theorem dX1_fits_69 : decode cX1_fits 69 = .ok (.iinc 3 1, 3) := dk_132 3 1 (dk_at dksX1_fits_3 0 rfl rfl)
theorem dX1_fits_72 : decode cX1_fits 72 = .ok (.goto (-33), 3) := dk_167 255 223 (dk_at dksX1_fits_3 3 rfl rfl)
theorem dX1_fits_75 : decode cX1_fits 75 = .ok (.iconst (-1), 1) := dk_2 (dk_at dksX1_fits_3 6 rfl rfl)
theorem dX1_fits_76 : decode cX1_fits 76 = .ok (.ireturn, 1) := dk_172 (dk_at dksX1_fits_3 7 rfl rfl)
abbrev cX1_askedOf : ByteArray := prog_1_method_78_code
def yX1_askedOf : MethodName := ⟨RX1, "askedOf", "(I)V"⟩
def dkwX1_askedOf_1 : List UInt8 := [182, 0, 233, 187, 1, 146, 89, 183, 1, 148, 191]
abbrev dktX1_askedOf_1 : List UInt8 := dkwX1_askedOf_1 ++ []
def dkwX1_askedOf_0 : List UInt8 := [27, 3, 42, 180, 0, 10, 180, 0, 102, 4, 100, 184, 0, 91, 153, 0, 4, 177, 42, 180, 0, 25]
abbrev dktX1_askedOf_0 : List UInt8 := dkwX1_askedOf_0 ++ dktX1_askedOf_1
theorem dksX1_askedOf_0 : cX1_askedOf.data.toList.drop 0 = dktX1_askedOf_0 := by decide +kernel
theorem dksX1_askedOf_1 : cX1_askedOf.data.toList.drop 22 = dktX1_askedOf_1 := dk_seg dksX1_askedOf_0 22 rfl rfl
theorem dX1_askedOf_0 : decode cX1_askedOf 0 = .ok (.iload_n 1, 1) := dk_27 (dk_at dksX1_askedOf_0 0 rfl rfl)
theorem dX1_askedOf_1 : decode cX1_askedOf 1 = .ok (.iconst 0, 1) := dk_3 (dk_at dksX1_askedOf_0 1 rfl rfl)
theorem dX1_askedOf_2 : decode cX1_askedOf 2 = .ok (.aload_n 0, 1) := dk_42 (dk_at dksX1_askedOf_0 2 rfl rfl)
theorem dX1_askedOf_3 : decode cX1_askedOf 3 = .ok (.getfield 10, 3) := dk_180 0 10 (dk_at dksX1_askedOf_0 3 rfl rfl)
theorem dX1_askedOf_6 : decode cX1_askedOf 6 = .ok (.getfield 102, 3) := dk_180 0 102 (dk_at dksX1_askedOf_0 6 rfl rfl)
theorem dX1_askedOf_9 : decode cX1_askedOf 9 = .ok (.iconst 1, 1) := dk_4 (dk_at dksX1_askedOf_0 9 rfl rfl)
theorem dX1_askedOf_10 : decode cX1_askedOf 10 = .ok (.isub, 1) := dk_100 (dk_at dksX1_askedOf_0 10 rfl rfl)
theorem dX1_askedOf_11 : decode cX1_askedOf 11 = .ok (.invokestatic 91, 3) := dk_184 0 91 (dk_at dksX1_askedOf_0 11 rfl rfl)
theorem dX1_askedOf_14 : decode cX1_askedOf 14 = .ok (.ifCond .eq 4, 3) := dk_153 0 4 (dk_at dksX1_askedOf_0 14 rfl rfl)
theorem dX1_askedOf_17 : decode cX1_askedOf 17 = .ok (.return_, 1) := dk_177 (dk_at dksX1_askedOf_0 17 rfl rfl)
theorem dX1_askedOf_18 : decode cX1_askedOf 18 = .ok (.aload_n 0, 1) := dk_42 (dk_at dksX1_askedOf_0 18 rfl rfl)
theorem dX1_askedOf_19 : decode cX1_askedOf 19 = .ok (.getfield 25, 3) := dk_180 0 25 (dk_at dksX1_askedOf_0 19 rfl rfl)
theorem dX1_askedOf_22 : decode cX1_askedOf 22 = .ok (.invokevirtual 233, 3) := dk_182 0 233 (dk_at dksX1_askedOf_1 0 rfl rfl)
theorem dX1_askedOf_25 : decode cX1_askedOf 25 = .ok (.new 402, 3) := dk_187 1 146 (dk_at dksX1_askedOf_1 3 rfl rfl)
theorem dX1_askedOf_28 : decode cX1_askedOf 28 = .ok (.dup, 1) := dk_89 (dk_at dksX1_askedOf_1 6 rfl rfl)
theorem dX1_askedOf_29 : decode cX1_askedOf 29 = .ok (.invokespecial 404, 3) := dk_183 1 148 (dk_at dksX1_askedOf_1 7 rfl rfl)
theorem dX1_askedOf_32 : decode cX1_askedOf 32 = .ok (.athrow, 1) := dk_191 (dk_at dksX1_askedOf_1 10 rfl rfl)
abbrev cX1_saidAll : ByteArray := prog_1_method_77_code
def yX1_saidAll : MethodName := ⟨RX1, "saidAll", "()I"⟩
def dkwX1_saidAll_5 : List UInt8 := [132, 2, 3, 167, 255, 175, 4, 43, 180, 2, 29, 6, 108, 120, 4, 100, 172]
abbrev dktX1_saidAll_5 : List UInt8 := dkwX1_saidAll_5 ++ []
def dkwX1_saidAll_4 : List UInt8 := [180, 2, 32, 28, 5, 96, 51, 3, 4, 184, 0, 91, 153, 0, 7, 4, 167, 0, 4, 3, 184, 1, 161]
abbrev dktX1_saidAll_4 : List UInt8 := dkwX1_saidAll_4 ++ dktX1_saidAll_5
def dkwX1_saidAll_3 : List UInt8 := [180, 2, 32, 28, 4, 96, 51, 3, 42, 180, 0, 10, 180, 0, 102, 4, 100, 184, 0, 91, 153, 0, 23, 43]
abbrev dktX1_saidAll_3 : List UInt8 := dkwX1_saidAll_3 ++ dktX1_saidAll_4
def dkwX1_saidAll_2 : List UInt8 := [180, 2, 32, 28, 51, 3, 42, 180, 0, 10, 180, 0, 102, 4, 100, 184, 0, 91, 153, 0, 47, 43]
abbrev dktX1_saidAll_2 : List UInt8 := dkwX1_saidAll_2 ++ dktX1_saidAll_3
def dkwX1_saidAll_1 : List UInt8 := [163, 0, 7, 4, 167, 0, 4, 3, 184, 1, 161, 3, 61, 28, 43, 180, 2, 29, 162, 0, 79, 43]
abbrev dktX1_saidAll_1 : List UInt8 := dkwX1_saidAll_1 ++ dktX1_saidAll_2
def dkwX1_saidAll_0 : List UInt8 := [42, 180, 0, 25, 76, 43, 182, 0, 233, 43, 180, 2, 29, 6, 112, 154, 0, 16, 43, 180, 2, 29, 16, 36]
abbrev dktX1_saidAll_0 : List UInt8 := dkwX1_saidAll_0 ++ dktX1_saidAll_1
theorem dksX1_saidAll_0 : cX1_saidAll.data.toList.drop 0 = dktX1_saidAll_0 := by decide +kernel
theorem dksX1_saidAll_1 : cX1_saidAll.data.toList.drop 24 = dktX1_saidAll_1 := dk_seg dksX1_saidAll_0 24 rfl rfl
theorem dksX1_saidAll_2 : cX1_saidAll.data.toList.drop 46 = dktX1_saidAll_2 := dk_seg dksX1_saidAll_1 22 rfl rfl
theorem dksX1_saidAll_3 : cX1_saidAll.data.toList.drop 68 = dktX1_saidAll_3 := dk_seg dksX1_saidAll_2 22 rfl rfl
theorem dksX1_saidAll_4 : cX1_saidAll.data.toList.drop 92 = dktX1_saidAll_4 := dk_seg dksX1_saidAll_3 24 rfl rfl
theorem dksX1_saidAll_5 : cX1_saidAll.data.toList.drop 115 = dktX1_saidAll_5 := dk_seg dksX1_saidAll_4 23 rfl rfl
theorem dX1_saidAll_0 : decode cX1_saidAll 0 = .ok (.aload_n 0, 1) := dk_42 (dk_at dksX1_saidAll_0 0 rfl rfl)
theorem dX1_saidAll_1 : decode cX1_saidAll 1 = .ok (.getfield 25, 3) := dk_180 0 25 (dk_at dksX1_saidAll_0 1 rfl rfl)
theorem dX1_saidAll_4 : decode cX1_saidAll 4 = .ok (.astore_n 1, 1) := dk_76 (dk_at dksX1_saidAll_0 4 rfl rfl)
theorem dX1_saidAll_5 : decode cX1_saidAll 5 = .ok (.aload_n 1, 1) := dk_43 (dk_at dksX1_saidAll_0 5 rfl rfl)
theorem dX1_saidAll_6 : decode cX1_saidAll 6 = .ok (.invokevirtual 233, 3) := dk_182 0 233 (dk_at dksX1_saidAll_0 6 rfl rfl)
theorem dX1_saidAll_9 : decode cX1_saidAll 9 = .ok (.aload_n 1, 1) := dk_43 (dk_at dksX1_saidAll_0 9 rfl rfl)
theorem dX1_saidAll_10 : decode cX1_saidAll 10 = .ok (.getfield 541, 3) := dk_180 2 29 (dk_at dksX1_saidAll_0 10 rfl rfl)
theorem dX1_saidAll_13 : decode cX1_saidAll 13 = .ok (.iconst 3, 1) := dk_6 (dk_at dksX1_saidAll_0 13 rfl rfl)
theorem dX1_saidAll_14 : decode cX1_saidAll 14 = .ok (.irem, 1) := dk_112 (dk_at dksX1_saidAll_0 14 rfl rfl)
theorem dX1_saidAll_15 : decode cX1_saidAll 15 = .ok (.ifCond .ne 16, 3) := dk_154 0 16 (dk_at dksX1_saidAll_0 15 rfl rfl)
theorem dX1_saidAll_18 : decode cX1_saidAll 18 = .ok (.aload_n 1, 1) := dk_43 (dk_at dksX1_saidAll_0 18 rfl rfl)
theorem dX1_saidAll_19 : decode cX1_saidAll 19 = .ok (.getfield 541, 3) := dk_180 2 29 (dk_at dksX1_saidAll_0 19 rfl rfl)
theorem dX1_saidAll_22 : decode cX1_saidAll 22 = .ok (.bipush 36, 2) := dk_16 36 (dk_at dksX1_saidAll_0 22 rfl rfl)
theorem dX1_saidAll_24 : decode cX1_saidAll 24 = .ok (.if_icmp .gt 7, 3) := dk_163 0 7 (dk_at dksX1_saidAll_1 0 rfl rfl)
theorem dX1_saidAll_27 : decode cX1_saidAll 27 = .ok (.iconst 1, 1) := dk_4 (dk_at dksX1_saidAll_1 3 rfl rfl)
theorem dX1_saidAll_28 : decode cX1_saidAll 28 = .ok (.goto 4, 3) := dk_167 0 4 (dk_at dksX1_saidAll_1 4 rfl rfl)
theorem dX1_saidAll_31 : decode cX1_saidAll 31 = .ok (.iconst 0, 1) := dk_3 (dk_at dksX1_saidAll_1 7 rfl rfl)
theorem dX1_saidAll_32 : decode cX1_saidAll 32 = .ok (.invokestatic 417, 3) := dk_184 1 161 (dk_at dksX1_saidAll_1 8 rfl rfl)
theorem dX1_saidAll_35 : decode cX1_saidAll 35 = .ok (.iconst 0, 1) := dk_3 (dk_at dksX1_saidAll_1 11 rfl rfl)
theorem dX1_saidAll_36 : decode cX1_saidAll 36 = .ok (.istore_n 2, 1) := dk_61 (dk_at dksX1_saidAll_1 12 rfl rfl)
theorem dX1_saidAll_37 : decode cX1_saidAll 37 = .ok (.iload_n 2, 1) := dk_28 (dk_at dksX1_saidAll_1 13 rfl rfl)
theorem dX1_saidAll_38 : decode cX1_saidAll 38 = .ok (.aload_n 1, 1) := dk_43 (dk_at dksX1_saidAll_1 14 rfl rfl)
theorem dX1_saidAll_39 : decode cX1_saidAll 39 = .ok (.getfield 541, 3) := dk_180 2 29 (dk_at dksX1_saidAll_1 15 rfl rfl)
theorem dX1_saidAll_42 : decode cX1_saidAll 42 = .ok (.if_icmp .ge 79, 3) := dk_162 0 79 (dk_at dksX1_saidAll_1 18 rfl rfl)
theorem dX1_saidAll_45 : decode cX1_saidAll 45 = .ok (.aload_n 1, 1) := dk_43 (dk_at dksX1_saidAll_1 21 rfl rfl)
theorem dX1_saidAll_46 : decode cX1_saidAll 46 = .ok (.getfield 544, 3) := dk_180 2 32 (dk_at dksX1_saidAll_2 0 rfl rfl)
theorem dX1_saidAll_49 : decode cX1_saidAll 49 = .ok (.iload_n 2, 1) := dk_28 (dk_at dksX1_saidAll_2 3 rfl rfl)
theorem dX1_saidAll_50 : decode cX1_saidAll 50 = .ok (.baload, 1) := dk_51 (dk_at dksX1_saidAll_2 4 rfl rfl)
theorem dX1_saidAll_51 : decode cX1_saidAll 51 = .ok (.iconst 0, 1) := dk_3 (dk_at dksX1_saidAll_2 5 rfl rfl)
theorem dX1_saidAll_52 : decode cX1_saidAll 52 = .ok (.aload_n 0, 1) := dk_42 (dk_at dksX1_saidAll_2 6 rfl rfl)
theorem dX1_saidAll_53 : decode cX1_saidAll 53 = .ok (.getfield 10, 3) := dk_180 0 10 (dk_at dksX1_saidAll_2 7 rfl rfl)
theorem dX1_saidAll_56 : decode cX1_saidAll 56 = .ok (.getfield 102, 3) := dk_180 0 102 (dk_at dksX1_saidAll_2 10 rfl rfl)
theorem dX1_saidAll_59 : decode cX1_saidAll 59 = .ok (.iconst 1, 1) := dk_4 (dk_at dksX1_saidAll_2 13 rfl rfl)
theorem dX1_saidAll_60 : decode cX1_saidAll 60 = .ok (.isub, 1) := dk_100 (dk_at dksX1_saidAll_2 14 rfl rfl)
theorem dX1_saidAll_61 : decode cX1_saidAll 61 = .ok (.invokestatic 91, 3) := dk_184 0 91 (dk_at dksX1_saidAll_2 15 rfl rfl)
theorem dX1_saidAll_64 : decode cX1_saidAll 64 = .ok (.ifCond .eq 47, 3) := dk_153 0 47 (dk_at dksX1_saidAll_2 18 rfl rfl)
theorem dX1_saidAll_67 : decode cX1_saidAll 67 = .ok (.aload_n 1, 1) := dk_43 (dk_at dksX1_saidAll_2 21 rfl rfl)
theorem dX1_saidAll_68 : decode cX1_saidAll 68 = .ok (.getfield 544, 3) := dk_180 2 32 (dk_at dksX1_saidAll_3 0 rfl rfl)
theorem dX1_saidAll_71 : decode cX1_saidAll 71 = .ok (.iload_n 2, 1) := dk_28 (dk_at dksX1_saidAll_3 3 rfl rfl)
theorem dX1_saidAll_72 : decode cX1_saidAll 72 = .ok (.iconst 1, 1) := dk_4 (dk_at dksX1_saidAll_3 4 rfl rfl)
theorem dX1_saidAll_73 : decode cX1_saidAll 73 = .ok (.iadd, 1) := dk_96 (dk_at dksX1_saidAll_3 5 rfl rfl)
theorem dX1_saidAll_74 : decode cX1_saidAll 74 = .ok (.baload, 1) := dk_51 (dk_at dksX1_saidAll_3 6 rfl rfl)
theorem dX1_saidAll_75 : decode cX1_saidAll 75 = .ok (.iconst 0, 1) := dk_3 (dk_at dksX1_saidAll_3 7 rfl rfl)
theorem dX1_saidAll_76 : decode cX1_saidAll 76 = .ok (.aload_n 0, 1) := dk_42 (dk_at dksX1_saidAll_3 8 rfl rfl)
theorem dX1_saidAll_77 : decode cX1_saidAll 77 = .ok (.getfield 10, 3) := dk_180 0 10 (dk_at dksX1_saidAll_3 9 rfl rfl)
theorem dX1_saidAll_80 : decode cX1_saidAll 80 = .ok (.getfield 102, 3) := dk_180 0 102 (dk_at dksX1_saidAll_3 12 rfl rfl)
theorem dX1_saidAll_83 : decode cX1_saidAll 83 = .ok (.iconst 1, 1) := dk_4 (dk_at dksX1_saidAll_3 15 rfl rfl)
theorem dX1_saidAll_84 : decode cX1_saidAll 84 = .ok (.isub, 1) := dk_100 (dk_at dksX1_saidAll_3 16 rfl rfl)
theorem dX1_saidAll_85 : decode cX1_saidAll 85 = .ok (.invokestatic 91, 3) := dk_184 0 91 (dk_at dksX1_saidAll_3 17 rfl rfl)
theorem dX1_saidAll_88 : decode cX1_saidAll 88 = .ok (.ifCond .eq 23, 3) := dk_153 0 23 (dk_at dksX1_saidAll_3 20 rfl rfl)
theorem dX1_saidAll_91 : decode cX1_saidAll 91 = .ok (.aload_n 1, 1) := dk_43 (dk_at dksX1_saidAll_3 23 rfl rfl)
theorem dX1_saidAll_92 : decode cX1_saidAll 92 = .ok (.getfield 544, 3) := dk_180 2 32 (dk_at dksX1_saidAll_4 0 rfl rfl)
theorem dX1_saidAll_95 : decode cX1_saidAll 95 = .ok (.iload_n 2, 1) := dk_28 (dk_at dksX1_saidAll_4 3 rfl rfl)
theorem dX1_saidAll_96 : decode cX1_saidAll 96 = .ok (.iconst 2, 1) := dk_5 (dk_at dksX1_saidAll_4 4 rfl rfl)
theorem dX1_saidAll_97 : decode cX1_saidAll 97 = .ok (.iadd, 1) := dk_96 (dk_at dksX1_saidAll_4 5 rfl rfl)
theorem dX1_saidAll_98 : decode cX1_saidAll 98 = .ok (.baload, 1) := dk_51 (dk_at dksX1_saidAll_4 6 rfl rfl)
theorem dX1_saidAll_99 : decode cX1_saidAll 99 = .ok (.iconst 0, 1) := dk_3 (dk_at dksX1_saidAll_4 7 rfl rfl)
theorem dX1_saidAll_100 : decode cX1_saidAll 100 = .ok (.iconst 1, 1) := dk_4 (dk_at dksX1_saidAll_4 8 rfl rfl)
theorem dX1_saidAll_101 : decode cX1_saidAll 101 = .ok (.invokestatic 91, 3) := dk_184 0 91 (dk_at dksX1_saidAll_4 9 rfl rfl)
theorem dX1_saidAll_104 : decode cX1_saidAll 104 = .ok (.ifCond .eq 7, 3) := dk_153 0 7 (dk_at dksX1_saidAll_4 12 rfl rfl)
theorem dX1_saidAll_107 : decode cX1_saidAll 107 = .ok (.iconst 1, 1) := dk_4 (dk_at dksX1_saidAll_4 15 rfl rfl)
theorem dX1_saidAll_108 : decode cX1_saidAll 108 = .ok (.goto 4, 3) := dk_167 0 4 (dk_at dksX1_saidAll_4 16 rfl rfl)
theorem dX1_saidAll_111 : decode cX1_saidAll 111 = .ok (.iconst 0, 1) := dk_3 (dk_at dksX1_saidAll_4 19 rfl rfl)
theorem dX1_saidAll_112 : decode cX1_saidAll 112 = .ok (.invokestatic 417, 3) := dk_184 1 161 (dk_at dksX1_saidAll_4 20 rfl rfl)
theorem dX1_saidAll_115 : decode cX1_saidAll 115 = .ok (.iinc 2 3, 3) := dk_132 2 3 (dk_at dksX1_saidAll_5 0 rfl rfl)
theorem dX1_saidAll_118 : decode cX1_saidAll 118 = .ok (.goto (-81), 3) := dk_167 255 175 (dk_at dksX1_saidAll_5 3 rfl rfl)
theorem dX1_saidAll_121 : decode cX1_saidAll 121 = .ok (.iconst 1, 1) := dk_4 (dk_at dksX1_saidAll_5 6 rfl rfl)
theorem dX1_saidAll_122 : decode cX1_saidAll 122 = .ok (.aload_n 1, 1) := dk_43 (dk_at dksX1_saidAll_5 7 rfl rfl)
theorem dX1_saidAll_123 : decode cX1_saidAll 123 = .ok (.getfield 541, 3) := dk_180 2 29 (dk_at dksX1_saidAll_5 8 rfl rfl)
theorem dX1_saidAll_126 : decode cX1_saidAll 126 = .ok (.iconst 3, 1) := dk_6 (dk_at dksX1_saidAll_5 11 rfl rfl)
theorem dX1_saidAll_127 : decode cX1_saidAll 127 = .ok (.idiv, 1) := dk_108 (dk_at dksX1_saidAll_5 12 rfl rfl)
theorem dX1_saidAll_128 : decode cX1_saidAll 128 = .ok (.ishl, 1) := dk_120 (dk_at dksX1_saidAll_5 13 rfl rfl)
theorem dX1_saidAll_129 : decode cX1_saidAll 129 = .ok (.iconst 1, 1) := dk_4 (dk_at dksX1_saidAll_5 14 rfl rfl)
theorem dX1_saidAll_130 : decode cX1_saidAll 130 = .ok (.isub, 1) := dk_100 (dk_at dksX1_saidAll_5 15 rfl rfl)
theorem dX1_saidAll_131 : decode cX1_saidAll 131 = .ok (.ireturn, 1) := dk_172 (dk_at dksX1_saidAll_5 16 rfl rfl)
abbrev cX1_ask : ByteArray := prog_1_method_80_code
def yX1_ask : MethodName := ⟨RX1, "ask", "(I)I"⟩
def dkwX1_ask_4 : List UInt8 := [132, 5, 1, 167, 255, 201, 29, 172]
abbrev dktX1_ask_4 : List UInt8 := dkwX1_ask_4 ++ []
def dkwX1_ask_3 : List UInt8 := [184, 2, 52, 54, 7, 21, 7, 21, 4, 161, 0, 6, 167, 0, 10, 21, 5, 62, 21, 7, 54, 4]
abbrev dktX1_ask_3 : List UInt8 := dkwX1_ask_3 ++ dktX1_ask_4
def dkwX1_ask_2 : List UInt8 := [180, 0, 102, 162, 0, 49, 42, 180, 0, 55, 27, 21, 5, 182, 2, 49, 54, 6, 21, 6, 28, 21, 6, 100]
abbrev dktX1_ask_2 : List UInt8 := dkwX1_ask_2 ++ dktX1_ask_3
def dkwX1_ask_1 : List UInt8 := [61, 28, 5, 162, 0, 5, 2, 172, 2, 62, 28, 4, 96, 54, 4, 3, 54, 5, 21, 5, 42, 180, 0, 10]
abbrev dktX1_ask_1 : List UInt8 := dkwX1_ask_1 ++ dktX1_ask_2
def dkwX1_ask_0 : List UInt8 := [42, 27, 182, 2, 36, 42, 180, 0, 55, 42, 182, 2, 39, 182, 2, 42, 87, 42, 180, 0, 55, 182, 2, 46]
abbrev dktX1_ask_0 : List UInt8 := dkwX1_ask_0 ++ dktX1_ask_1
theorem dksX1_ask_0 : cX1_ask.data.toList.drop 0 = dktX1_ask_0 := by decide +kernel
theorem dksX1_ask_1 : cX1_ask.data.toList.drop 24 = dktX1_ask_1 := dk_seg dksX1_ask_0 24 rfl rfl
theorem dksX1_ask_2 : cX1_ask.data.toList.drop 48 = dktX1_ask_2 := dk_seg dksX1_ask_1 24 rfl rfl
theorem dksX1_ask_3 : cX1_ask.data.toList.drop 72 = dktX1_ask_3 := dk_seg dksX1_ask_2 24 rfl rfl
theorem dksX1_ask_4 : cX1_ask.data.toList.drop 94 = dktX1_ask_4 := dk_seg dksX1_ask_3 22 rfl rfl
theorem dX1_ask_0 : decode cX1_ask 0 = .ok (.aload_n 0, 1) := dk_42 (dk_at dksX1_ask_0 0 rfl rfl)
theorem dX1_ask_1 : decode cX1_ask 1 = .ok (.iload_n 1, 1) := dk_27 (dk_at dksX1_ask_0 1 rfl rfl)
theorem dX1_ask_2 : decode cX1_ask 2 = .ok (.invokevirtual 548, 3) := dk_182 2 36 (dk_at dksX1_ask_0 2 rfl rfl)
theorem dX1_ask_5 : decode cX1_ask 5 = .ok (.aload_n 0, 1) := dk_42 (dk_at dksX1_ask_0 5 rfl rfl)
theorem dX1_ask_6 : decode cX1_ask 6 = .ok (.getfield 55, 3) := dk_180 0 55 (dk_at dksX1_ask_0 6 rfl rfl)
theorem dX1_ask_9 : decode cX1_ask 9 = .ok (.aload_n 0, 1) := dk_42 (dk_at dksX1_ask_0 9 rfl rfl)
theorem dX1_ask_10 : decode cX1_ask 10 = .ok (.invokevirtual 551, 3) := dk_182 2 39 (dk_at dksX1_ask_0 10 rfl rfl)
theorem dX1_ask_13 : decode cX1_ask 13 = .ok (.invokevirtual 554, 3) := dk_182 2 42 (dk_at dksX1_ask_0 13 rfl rfl)
theorem dX1_ask_16 : decode cX1_ask 16 = .ok (.pop, 1) := dk_87 (dk_at dksX1_ask_0 16 rfl rfl)
theorem dX1_ask_17 : decode cX1_ask 17 = .ok (.aload_n 0, 1) := dk_42 (dk_at dksX1_ask_0 17 rfl rfl)
theorem dX1_ask_18 : decode cX1_ask 18 = .ok (.getfield 55, 3) := dk_180 0 55 (dk_at dksX1_ask_0 18 rfl rfl)
theorem dX1_ask_21 : decode cX1_ask 21 = .ok (.invokevirtual 558, 3) := dk_182 2 46 (dk_at dksX1_ask_0 21 rfl rfl)
theorem dX1_ask_24 : decode cX1_ask 24 = .ok (.istore_n 2, 1) := dk_61 (dk_at dksX1_ask_1 0 rfl rfl)
theorem dX1_ask_25 : decode cX1_ask 25 = .ok (.iload_n 2, 1) := dk_28 (dk_at dksX1_ask_1 1 rfl rfl)
theorem dX1_ask_26 : decode cX1_ask 26 = .ok (.iconst 2, 1) := dk_5 (dk_at dksX1_ask_1 2 rfl rfl)
theorem dX1_ask_27 : decode cX1_ask 27 = .ok (.if_icmp .ge 5, 3) := dk_162 0 5 (dk_at dksX1_ask_1 3 rfl rfl)
theorem dX1_ask_30 : decode cX1_ask 30 = .ok (.iconst (-1), 1) := dk_2 (dk_at dksX1_ask_1 6 rfl rfl)
theorem dX1_ask_31 : decode cX1_ask 31 = .ok (.ireturn, 1) := dk_172 (dk_at dksX1_ask_1 7 rfl rfl)
theorem dX1_ask_32 : decode cX1_ask 32 = .ok (.iconst (-1), 1) := dk_2 (dk_at dksX1_ask_1 8 rfl rfl)
theorem dX1_ask_33 : decode cX1_ask 33 = .ok (.istore_n 3, 1) := dk_62 (dk_at dksX1_ask_1 9 rfl rfl)
theorem dX1_ask_34 : decode cX1_ask 34 = .ok (.iload_n 2, 1) := dk_28 (dk_at dksX1_ask_1 10 rfl rfl)
theorem dX1_ask_35 : decode cX1_ask 35 = .ok (.iconst 1, 1) := dk_4 (dk_at dksX1_ask_1 11 rfl rfl)
theorem dX1_ask_36 : decode cX1_ask 36 = .ok (.iadd, 1) := dk_96 (dk_at dksX1_ask_1 12 rfl rfl)
theorem dX1_ask_37 : decode cX1_ask 37 = .ok (.istore 4, 2) := dk_54 4 (dk_at dksX1_ask_1 13 rfl rfl)
theorem dX1_ask_39 : decode cX1_ask 39 = .ok (.iconst 0, 1) := dk_3 (dk_at dksX1_ask_1 15 rfl rfl)
theorem dX1_ask_40 : decode cX1_ask 40 = .ok (.istore 5, 2) := dk_54 5 (dk_at dksX1_ask_1 16 rfl rfl)
theorem dX1_ask_42 : decode cX1_ask 42 = .ok (.iload 5, 2) := dk_21 5 (dk_at dksX1_ask_1 18 rfl rfl)
theorem dX1_ask_44 : decode cX1_ask 44 = .ok (.aload_n 0, 1) := dk_42 (dk_at dksX1_ask_1 20 rfl rfl)
theorem dX1_ask_45 : decode cX1_ask 45 = .ok (.getfield 10, 3) := dk_180 0 10 (dk_at dksX1_ask_1 21 rfl rfl)
theorem dX1_ask_48 : decode cX1_ask 48 = .ok (.getfield 102, 3) := dk_180 0 102 (dk_at dksX1_ask_2 0 rfl rfl)
theorem dX1_ask_51 : decode cX1_ask 51 = .ok (.if_icmp .ge 49, 3) := dk_162 0 49 (dk_at dksX1_ask_2 3 rfl rfl)
theorem dX1_ask_54 : decode cX1_ask 54 = .ok (.aload_n 0, 1) := dk_42 (dk_at dksX1_ask_2 6 rfl rfl)
theorem dX1_ask_55 : decode cX1_ask 55 = .ok (.getfield 55, 3) := dk_180 0 55 (dk_at dksX1_ask_2 7 rfl rfl)
theorem dX1_ask_58 : decode cX1_ask 58 = .ok (.iload_n 1, 1) := dk_27 (dk_at dksX1_ask_2 10 rfl rfl)
theorem dX1_ask_59 : decode cX1_ask 59 = .ok (.iload 5, 2) := dk_21 5 (dk_at dksX1_ask_2 11 rfl rfl)
theorem dX1_ask_61 : decode cX1_ask 61 = .ok (.invokevirtual 561, 3) := dk_182 2 49 (dk_at dksX1_ask_2 13 rfl rfl)
theorem dX1_ask_64 : decode cX1_ask 64 = .ok (.istore 6, 2) := dk_54 6 (dk_at dksX1_ask_2 16 rfl rfl)
theorem dX1_ask_66 : decode cX1_ask 66 = .ok (.iload 6, 2) := dk_21 6 (dk_at dksX1_ask_2 18 rfl rfl)
theorem dX1_ask_68 : decode cX1_ask 68 = .ok (.iload_n 2, 1) := dk_28 (dk_at dksX1_ask_2 20 rfl rfl)
theorem dX1_ask_69 : decode cX1_ask 69 = .ok (.iload 6, 2) := dk_21 6 (dk_at dksX1_ask_2 21 rfl rfl)
theorem dX1_ask_71 : decode cX1_ask 71 = .ok (.isub, 1) := dk_100 (dk_at dksX1_ask_2 23 rfl rfl)
theorem dX1_ask_72 : decode cX1_ask 72 = .ok (.invokestatic 564, 3) := dk_184 2 52 (dk_at dksX1_ask_3 0 rfl rfl)
theorem dX1_ask_75 : decode cX1_ask 75 = .ok (.istore 7, 2) := dk_54 7 (dk_at dksX1_ask_3 3 rfl rfl)
theorem dX1_ask_77 : decode cX1_ask 77 = .ok (.iload 7, 2) := dk_21 7 (dk_at dksX1_ask_3 5 rfl rfl)
theorem dX1_ask_79 : decode cX1_ask 79 = .ok (.iload 4, 2) := dk_21 4 (dk_at dksX1_ask_3 7 rfl rfl)
theorem dX1_ask_81 : decode cX1_ask 81 = .ok (.if_icmp .lt 6, 3) := dk_161 0 6 (dk_at dksX1_ask_3 9 rfl rfl)
theorem dX1_ask_84 : decode cX1_ask 84 = .ok (.goto 10, 3) := dk_167 0 10 (dk_at dksX1_ask_3 12 rfl rfl)
theorem dX1_ask_87 : decode cX1_ask 87 = .ok (.iload 5, 2) := dk_21 5 (dk_at dksX1_ask_3 15 rfl rfl)
theorem dX1_ask_89 : decode cX1_ask 89 = .ok (.istore_n 3, 1) := dk_62 (dk_at dksX1_ask_3 17 rfl rfl)
theorem dX1_ask_90 : decode cX1_ask 90 = .ok (.iload 7, 2) := dk_21 7 (dk_at dksX1_ask_3 18 rfl rfl)
theorem dX1_ask_92 : decode cX1_ask 92 = .ok (.istore 4, 2) := dk_54 4 (dk_at dksX1_ask_3 20 rfl rfl)
theorem dX1_ask_94 : decode cX1_ask 94 = .ok (.iinc 5 1, 3) := dk_132 5 1 (dk_at dksX1_ask_4 0 rfl rfl)
theorem dX1_ask_97 : decode cX1_ask 97 = .ok (.goto (-55), 3) := dk_167 255 201 (dk_at dksX1_ask_4 3 rfl rfl)
theorem dX1_ask_100 : decode cX1_ask 100 = .ok (.iload_n 3, 1) := dk_29 (dk_at dksX1_ask_4 6 rfl rfl)
theorem dX1_ask_101 : decode cX1_ask 101 = .ok (.ireturn, 1) := dk_172 (dk_at dksX1_ask_4 7 rfl rfl)
abbrev cX1_clash : ByteArray := prog_1_method_81_code
def yX1_clash : MethodName := ⟨RX1, "clash", "()I"⟩
def dkwX1_clash_2 : List UInt8 := [182, 2, 46, 154, 0, 5, 29, 61, 132, 3, 255, 167, 255, 222, 28, 172]
abbrev dktX1_clash_2 : List UInt8 := dkwX1_clash_2 ++ []
def dkwX1_clash_1 : List UInt8 := [62, 29, 158, 0, 36, 29, 184, 1, 121, 28, 184, 1, 121, 163, 0, 19, 42, 180, 0, 55, 29, 182, 2, 42]
abbrev dktX1_clash_1 : List UInt8 := dkwX1_clash_1 ++ dktX1_clash_2
def dkwX1_clash_0 : List UInt8 := [42, 182, 2, 39, 60, 42, 180, 0, 55, 27, 182, 2, 42, 182, 2, 46, 158, 0, 5, 3, 172, 27, 61, 27]
abbrev dktX1_clash_0 : List UInt8 := dkwX1_clash_0 ++ dktX1_clash_1
theorem dksX1_clash_0 : cX1_clash.data.toList.drop 0 = dktX1_clash_0 := by decide +kernel
theorem dksX1_clash_1 : cX1_clash.data.toList.drop 24 = dktX1_clash_1 := dk_seg dksX1_clash_0 24 rfl rfl
theorem dksX1_clash_2 : cX1_clash.data.toList.drop 48 = dktX1_clash_2 := dk_seg dksX1_clash_1 24 rfl rfl
theorem dX1_clash_0 : decode cX1_clash 0 = .ok (.aload_n 0, 1) := dk_42 (dk_at dksX1_clash_0 0 rfl rfl)
theorem dX1_clash_1 : decode cX1_clash 1 = .ok (.invokevirtual 551, 3) := dk_182 2 39 (dk_at dksX1_clash_0 1 rfl rfl)
theorem dX1_clash_4 : decode cX1_clash 4 = .ok (.istore_n 1, 1) := dk_60 (dk_at dksX1_clash_0 4 rfl rfl)
theorem dX1_clash_5 : decode cX1_clash 5 = .ok (.aload_n 0, 1) := dk_42 (dk_at dksX1_clash_0 5 rfl rfl)
theorem dX1_clash_6 : decode cX1_clash 6 = .ok (.getfield 55, 3) := dk_180 0 55 (dk_at dksX1_clash_0 6 rfl rfl)
theorem dX1_clash_9 : decode cX1_clash 9 = .ok (.iload_n 1, 1) := dk_27 (dk_at dksX1_clash_0 9 rfl rfl)
theorem dX1_clash_10 : decode cX1_clash 10 = .ok (.invokevirtual 554, 3) := dk_182 2 42 (dk_at dksX1_clash_0 10 rfl rfl)
theorem dX1_clash_13 : decode cX1_clash 13 = .ok (.invokevirtual 558, 3) := dk_182 2 46 (dk_at dksX1_clash_0 13 rfl rfl)
theorem dX1_clash_16 : decode cX1_clash 16 = .ok (.ifCond .le 5, 3) := dk_158 0 5 (dk_at dksX1_clash_0 16 rfl rfl)
theorem dX1_clash_19 : decode cX1_clash 19 = .ok (.iconst 0, 1) := dk_3 (dk_at dksX1_clash_0 19 rfl rfl)
theorem dX1_clash_20 : decode cX1_clash 20 = .ok (.ireturn, 1) := dk_172 (dk_at dksX1_clash_0 20 rfl rfl)
theorem dX1_clash_21 : decode cX1_clash 21 = .ok (.iload_n 1, 1) := dk_27 (dk_at dksX1_clash_0 21 rfl rfl)
theorem dX1_clash_22 : decode cX1_clash 22 = .ok (.istore_n 2, 1) := dk_61 (dk_at dksX1_clash_0 22 rfl rfl)
theorem dX1_clash_23 : decode cX1_clash 23 = .ok (.iload_n 1, 1) := dk_27 (dk_at dksX1_clash_0 23 rfl rfl)
theorem dX1_clash_24 : decode cX1_clash 24 = .ok (.istore_n 3, 1) := dk_62 (dk_at dksX1_clash_1 0 rfl rfl)
theorem dX1_clash_25 : decode cX1_clash 25 = .ok (.iload_n 3, 1) := dk_29 (dk_at dksX1_clash_1 1 rfl rfl)
theorem dX1_clash_26 : decode cX1_clash 26 = .ok (.ifCond .le 36, 3) := dk_158 0 36 (dk_at dksX1_clash_1 2 rfl rfl)
theorem dX1_clash_29 : decode cX1_clash 29 = .ok (.iload_n 3, 1) := dk_29 (dk_at dksX1_clash_1 5 rfl rfl)
theorem dX1_clash_30 : decode cX1_clash 30 = .ok (.invokestatic 377, 3) := dk_184 1 121 (dk_at dksX1_clash_1 6 rfl rfl)
theorem dX1_clash_33 : decode cX1_clash 33 = .ok (.iload_n 2, 1) := dk_28 (dk_at dksX1_clash_1 9 rfl rfl)
theorem dX1_clash_34 : decode cX1_clash 34 = .ok (.invokestatic 377, 3) := dk_184 1 121 (dk_at dksX1_clash_1 10 rfl rfl)
theorem dX1_clash_37 : decode cX1_clash 37 = .ok (.if_icmp .gt 19, 3) := dk_163 0 19 (dk_at dksX1_clash_1 13 rfl rfl)
theorem dX1_clash_40 : decode cX1_clash 40 = .ok (.aload_n 0, 1) := dk_42 (dk_at dksX1_clash_1 16 rfl rfl)
theorem dX1_clash_41 : decode cX1_clash 41 = .ok (.getfield 55, 3) := dk_180 0 55 (dk_at dksX1_clash_1 17 rfl rfl)
theorem dX1_clash_44 : decode cX1_clash 44 = .ok (.iload_n 3, 1) := dk_29 (dk_at dksX1_clash_1 20 rfl rfl)
theorem dX1_clash_45 : decode cX1_clash 45 = .ok (.invokevirtual 554, 3) := dk_182 2 42 (dk_at dksX1_clash_1 21 rfl rfl)
theorem dX1_clash_48 : decode cX1_clash 48 = .ok (.invokevirtual 558, 3) := dk_182 2 46 (dk_at dksX1_clash_2 0 rfl rfl)
theorem dX1_clash_51 : decode cX1_clash 51 = .ok (.ifCond .ne 5, 3) := dk_154 0 5 (dk_at dksX1_clash_2 3 rfl rfl)
theorem dX1_clash_54 : decode cX1_clash 54 = .ok (.iload_n 3, 1) := dk_29 (dk_at dksX1_clash_2 6 rfl rfl)
theorem dX1_clash_55 : decode cX1_clash 55 = .ok (.istore_n 2, 1) := dk_61 (dk_at dksX1_clash_2 7 rfl rfl)
theorem dX1_clash_56 : decode cX1_clash 56 = .ok (.iinc 3 (-1), 3) := dk_132 3 255 (dk_at dksX1_clash_2 8 rfl rfl)
theorem dX1_clash_59 : decode cX1_clash 59 = .ok (.goto (-34), 3) := dk_167 255 222 (dk_at dksX1_clash_2 11 rfl rfl)
theorem dX1_clash_62 : decode cX1_clash 62 = .ok (.iload_n 2, 1) := dk_28 (dk_at dksX1_clash_2 14 rfl rfl)
theorem dX1_clash_63 : decode cX1_clash 63 = .ok (.ireturn, 1) := dk_172 (dk_at dksX1_clash_2 15 rfl rfl)
abbrev cX1_forged : ByteArray := prog_1_method_83_code
def yX1_forged : MethodName := ⟨RX1, "forged", "(I)I"⟩
def dkwX1_forged_5 : List UInt8 := [21, 4, 62, 132, 4, 255, 167, 255, 203, 29, 172]
abbrev dktX1_forged_5 : List UInt8 := dkwX1_forged_5 ++ []
def dkwX1_forged_4 : List UInt8 := [29, 184, 1, 121, 164, 0, 6, 167, 0, 19, 27, 42, 21, 4, 182, 2, 68, 2, 130, 126, 154, 0, 6]
abbrev dktX1_forged_4 : List UInt8 := dkwX1_forged_4 ++ dktX1_forged_5
def dkwX1_forged_3 : List UInt8 := [21, 4, 155, 0, 54, 21, 4, 28, 2, 130, 126, 154, 0, 39, 29, 2, 159, 0, 18, 21, 4, 184, 1, 121]
abbrev dktX1_forged_3 : List UInt8 := dkwX1_forged_3 ++ dktX1_forged_4
def dkwX1_forged_2 : List UInt8 := [180, 0, 160, 29, 46, 120, 167, 0, 4, 3, 128, 61, 132, 3, 1, 167, 255, 211, 2, 62, 28, 54, 4]
abbrev dktX1_forged_2 : List UInt8 := dkwX1_forged_2 ++ dktX1_forged_3
def dkwX1_forged_1 : List UInt8 := [162, 0, 40, 28, 42, 180, 0, 10, 180, 0, 160, 29, 46, 2, 159, 0, 17, 4, 42, 180, 0, 10]
abbrev dktX1_forged_1 : List UInt8 := dkwX1_forged_1 ++ dktX1_forged_2
def dkwX1_forged_0 : List UInt8 := [27, 3, 17, 0, 255, 184, 0, 91, 184, 1, 161, 3, 61, 3, 62, 29, 42, 180, 0, 10, 180, 0, 166]
abbrev dktX1_forged_0 : List UInt8 := dkwX1_forged_0 ++ dktX1_forged_1
theorem dksX1_forged_0 : cX1_forged.data.toList.drop 0 = dktX1_forged_0 := by decide +kernel
theorem dksX1_forged_1 : cX1_forged.data.toList.drop 23 = dktX1_forged_1 := dk_seg dksX1_forged_0 23 rfl rfl
theorem dksX1_forged_2 : cX1_forged.data.toList.drop 45 = dktX1_forged_2 := dk_seg dksX1_forged_1 22 rfl rfl
theorem dksX1_forged_3 : cX1_forged.data.toList.drop 68 = dktX1_forged_3 := dk_seg dksX1_forged_2 23 rfl rfl
theorem dksX1_forged_4 : cX1_forged.data.toList.drop 92 = dktX1_forged_4 := dk_seg dksX1_forged_3 24 rfl rfl
theorem dksX1_forged_5 : cX1_forged.data.toList.drop 115 = dktX1_forged_5 := dk_seg dksX1_forged_4 23 rfl rfl
theorem dX1_forged_0 : decode cX1_forged 0 = .ok (.iload_n 1, 1) := dk_27 (dk_at dksX1_forged_0 0 rfl rfl)
theorem dX1_forged_1 : decode cX1_forged 1 = .ok (.iconst 0, 1) := dk_3 (dk_at dksX1_forged_0 1 rfl rfl)
theorem dX1_forged_2 : decode cX1_forged 2 = .ok (.sipush 255, 3) := dk_17 0 255 (dk_at dksX1_forged_0 2 rfl rfl)
theorem dX1_forged_5 : decode cX1_forged 5 = .ok (.invokestatic 91, 3) := dk_184 0 91 (dk_at dksX1_forged_0 5 rfl rfl)
theorem dX1_forged_8 : decode cX1_forged 8 = .ok (.invokestatic 417, 3) := dk_184 1 161 (dk_at dksX1_forged_0 8 rfl rfl)
theorem dX1_forged_11 : decode cX1_forged 11 = .ok (.iconst 0, 1) := dk_3 (dk_at dksX1_forged_0 11 rfl rfl)
theorem dX1_forged_12 : decode cX1_forged 12 = .ok (.istore_n 2, 1) := dk_61 (dk_at dksX1_forged_0 12 rfl rfl)
theorem dX1_forged_13 : decode cX1_forged 13 = .ok (.iconst 0, 1) := dk_3 (dk_at dksX1_forged_0 13 rfl rfl)
theorem dX1_forged_14 : decode cX1_forged 14 = .ok (.istore_n 3, 1) := dk_62 (dk_at dksX1_forged_0 14 rfl rfl)
theorem dX1_forged_15 : decode cX1_forged 15 = .ok (.iload_n 3, 1) := dk_29 (dk_at dksX1_forged_0 15 rfl rfl)
theorem dX1_forged_16 : decode cX1_forged 16 = .ok (.aload_n 0, 1) := dk_42 (dk_at dksX1_forged_0 16 rfl rfl)
theorem dX1_forged_17 : decode cX1_forged 17 = .ok (.getfield 10, 3) := dk_180 0 10 (dk_at dksX1_forged_0 17 rfl rfl)
theorem dX1_forged_20 : decode cX1_forged 20 = .ok (.getfield 166, 3) := dk_180 0 166 (dk_at dksX1_forged_0 20 rfl rfl)
theorem dX1_forged_23 : decode cX1_forged 23 = .ok (.if_icmp .ge 40, 3) := dk_162 0 40 (dk_at dksX1_forged_1 0 rfl rfl)
theorem dX1_forged_26 : decode cX1_forged 26 = .ok (.iload_n 2, 1) := dk_28 (dk_at dksX1_forged_1 3 rfl rfl)
theorem dX1_forged_27 : decode cX1_forged 27 = .ok (.aload_n 0, 1) := dk_42 (dk_at dksX1_forged_1 4 rfl rfl)
theorem dX1_forged_28 : decode cX1_forged 28 = .ok (.getfield 10, 3) := dk_180 0 10 (dk_at dksX1_forged_1 5 rfl rfl)
theorem dX1_forged_31 : decode cX1_forged 31 = .ok (.getfield 160, 3) := dk_180 0 160 (dk_at dksX1_forged_1 8 rfl rfl)
theorem dX1_forged_34 : decode cX1_forged 34 = .ok (.iload_n 3, 1) := dk_29 (dk_at dksX1_forged_1 11 rfl rfl)
theorem dX1_forged_35 : decode cX1_forged 35 = .ok (.iaload, 1) := dk_46 (dk_at dksX1_forged_1 12 rfl rfl)
theorem dX1_forged_36 : decode cX1_forged 36 = .ok (.iconst (-1), 1) := dk_2 (dk_at dksX1_forged_1 13 rfl rfl)
theorem dX1_forged_37 : decode cX1_forged 37 = .ok (.if_icmp .eq 17, 3) := dk_159 0 17 (dk_at dksX1_forged_1 14 rfl rfl)
theorem dX1_forged_40 : decode cX1_forged 40 = .ok (.iconst 1, 1) := dk_4 (dk_at dksX1_forged_1 17 rfl rfl)
theorem dX1_forged_41 : decode cX1_forged 41 = .ok (.aload_n 0, 1) := dk_42 (dk_at dksX1_forged_1 18 rfl rfl)
theorem dX1_forged_42 : decode cX1_forged 42 = .ok (.getfield 10, 3) := dk_180 0 10 (dk_at dksX1_forged_1 19 rfl rfl)
theorem dX1_forged_45 : decode cX1_forged 45 = .ok (.getfield 160, 3) := dk_180 0 160 (dk_at dksX1_forged_2 0 rfl rfl)
theorem dX1_forged_48 : decode cX1_forged 48 = .ok (.iload_n 3, 1) := dk_29 (dk_at dksX1_forged_2 3 rfl rfl)
theorem dX1_forged_49 : decode cX1_forged 49 = .ok (.iaload, 1) := dk_46 (dk_at dksX1_forged_2 4 rfl rfl)
theorem dX1_forged_50 : decode cX1_forged 50 = .ok (.ishl, 1) := dk_120 (dk_at dksX1_forged_2 5 rfl rfl)
theorem dX1_forged_51 : decode cX1_forged 51 = .ok (.goto 4, 3) := dk_167 0 4 (dk_at dksX1_forged_2 6 rfl rfl)
theorem dX1_forged_54 : decode cX1_forged 54 = .ok (.iconst 0, 1) := dk_3 (dk_at dksX1_forged_2 9 rfl rfl)
theorem dX1_forged_55 : decode cX1_forged 55 = .ok (.ior, 1) := dk_128 (dk_at dksX1_forged_2 10 rfl rfl)
theorem dX1_forged_56 : decode cX1_forged 56 = .ok (.istore_n 2, 1) := dk_61 (dk_at dksX1_forged_2 11 rfl rfl)
theorem dX1_forged_57 : decode cX1_forged 57 = .ok (.iinc 3 1, 3) := dk_132 3 1 (dk_at dksX1_forged_2 12 rfl rfl)
theorem dX1_forged_60 : decode cX1_forged 60 = .ok (.goto (-45), 3) := dk_167 255 211 (dk_at dksX1_forged_2 15 rfl rfl)
theorem dX1_forged_63 : decode cX1_forged 63 = .ok (.iconst (-1), 1) := dk_2 (dk_at dksX1_forged_2 18 rfl rfl)
theorem dX1_forged_64 : decode cX1_forged 64 = .ok (.istore_n 3, 1) := dk_62 (dk_at dksX1_forged_2 19 rfl rfl)
theorem dX1_forged_65 : decode cX1_forged 65 = .ok (.iload_n 2, 1) := dk_28 (dk_at dksX1_forged_2 20 rfl rfl)
theorem dX1_forged_66 : decode cX1_forged 66 = .ok (.istore 4, 2) := dk_54 4 (dk_at dksX1_forged_2 21 rfl rfl)
theorem dX1_forged_68 : decode cX1_forged 68 = .ok (.iload 4, 2) := dk_21 4 (dk_at dksX1_forged_3 0 rfl rfl)
theorem dX1_forged_70 : decode cX1_forged 70 = .ok (.ifCond .lt 54, 3) := dk_155 0 54 (dk_at dksX1_forged_3 2 rfl rfl)
theorem dX1_forged_73 : decode cX1_forged 73 = .ok (.iload 4, 2) := dk_21 4 (dk_at dksX1_forged_3 5 rfl rfl)
theorem dX1_forged_75 : decode cX1_forged 75 = .ok (.iload_n 2, 1) := dk_28 (dk_at dksX1_forged_3 7 rfl rfl)
theorem dX1_forged_76 : decode cX1_forged 76 = .ok (.iconst (-1), 1) := dk_2 (dk_at dksX1_forged_3 8 rfl rfl)
theorem dX1_forged_77 : decode cX1_forged 77 = .ok (.ixor, 1) := dk_130 (dk_at dksX1_forged_3 9 rfl rfl)
theorem dX1_forged_78 : decode cX1_forged 78 = .ok (.iand, 1) := dk_126 (dk_at dksX1_forged_3 10 rfl rfl)
theorem dX1_forged_79 : decode cX1_forged 79 = .ok (.ifCond .ne 39, 3) := dk_154 0 39 (dk_at dksX1_forged_3 11 rfl rfl)
theorem dX1_forged_82 : decode cX1_forged 82 = .ok (.iload_n 3, 1) := dk_29 (dk_at dksX1_forged_3 14 rfl rfl)
theorem dX1_forged_83 : decode cX1_forged 83 = .ok (.iconst (-1), 1) := dk_2 (dk_at dksX1_forged_3 15 rfl rfl)
theorem dX1_forged_84 : decode cX1_forged 84 = .ok (.if_icmp .eq 18, 3) := dk_159 0 18 (dk_at dksX1_forged_3 16 rfl rfl)
theorem dX1_forged_87 : decode cX1_forged 87 = .ok (.iload 4, 2) := dk_21 4 (dk_at dksX1_forged_3 19 rfl rfl)
theorem dX1_forged_89 : decode cX1_forged 89 = .ok (.invokestatic 377, 3) := dk_184 1 121 (dk_at dksX1_forged_3 21 rfl rfl)
theorem dX1_forged_92 : decode cX1_forged 92 = .ok (.iload_n 3, 1) := dk_29 (dk_at dksX1_forged_4 0 rfl rfl)
theorem dX1_forged_93 : decode cX1_forged 93 = .ok (.invokestatic 377, 3) := dk_184 1 121 (dk_at dksX1_forged_4 1 rfl rfl)
theorem dX1_forged_96 : decode cX1_forged 96 = .ok (.if_icmp .le 6, 3) := dk_164 0 6 (dk_at dksX1_forged_4 4 rfl rfl)
theorem dX1_forged_99 : decode cX1_forged 99 = .ok (.goto 19, 3) := dk_167 0 19 (dk_at dksX1_forged_4 7 rfl rfl)
theorem dX1_forged_102 : decode cX1_forged 102 = .ok (.iload_n 1, 1) := dk_27 (dk_at dksX1_forged_4 10 rfl rfl)
theorem dX1_forged_103 : decode cX1_forged 103 = .ok (.aload_n 0, 1) := dk_42 (dk_at dksX1_forged_4 11 rfl rfl)
theorem dX1_forged_104 : decode cX1_forged 104 = .ok (.iload 4, 2) := dk_21 4 (dk_at dksX1_forged_4 12 rfl rfl)
theorem dX1_forged_106 : decode cX1_forged 106 = .ok (.invokevirtual 580, 3) := dk_182 2 68 (dk_at dksX1_forged_4 14 rfl rfl)
theorem dX1_forged_109 : decode cX1_forged 109 = .ok (.iconst (-1), 1) := dk_2 (dk_at dksX1_forged_4 17 rfl rfl)
theorem dX1_forged_110 : decode cX1_forged 110 = .ok (.ixor, 1) := dk_130 (dk_at dksX1_forged_4 18 rfl rfl)
theorem dX1_forged_111 : decode cX1_forged 111 = .ok (.iand, 1) := dk_126 (dk_at dksX1_forged_4 19 rfl rfl)
theorem dX1_forged_112 : decode cX1_forged 112 = .ok (.ifCond .ne 6, 3) := dk_154 0 6 (dk_at dksX1_forged_4 20 rfl rfl)
theorem dX1_forged_115 : decode cX1_forged 115 = .ok (.iload 4, 2) := dk_21 4 (dk_at dksX1_forged_5 0 rfl rfl)
theorem dX1_forged_117 : decode cX1_forged 117 = .ok (.istore_n 3, 1) := dk_62 (dk_at dksX1_forged_5 2 rfl rfl)
theorem dX1_forged_118 : decode cX1_forged 118 = .ok (.iinc 4 (-1), 3) := dk_132 4 255 (dk_at dksX1_forged_5 3 rfl rfl)
theorem dX1_forged_121 : decode cX1_forged 121 = .ok (.goto (-53), 3) := dk_167 255 203 (dk_at dksX1_forged_5 6 rfl rfl)
theorem dX1_forged_124 : decode cX1_forged 124 = .ok (.iload_n 3, 1) := dk_29 (dk_at dksX1_forged_5 9 rfl rfl)
theorem dX1_forged_125 : decode cX1_forged 125 = .ok (.ireturn, 1) := dk_172 (dk_at dksX1_forged_5 10 rfl rfl)
abbrev cX1_marksOf : ByteArray := prog_1_method_84_code
def yX1_marksOf : MethodName := ⟨RX1, "marksOf", "(I)I"⟩
def dkwX1_marksOf_1 : List UInt8 := [42, 180, 0, 10, 180, 0, 109, 29, 46, 167, 0, 4, 3, 128, 61, 132, 3, 1, 167, 255, 218, 28, 172]
abbrev dktX1_marksOf_1 : List UInt8 := dkwX1_marksOf_1 ++ []
def dkwX1_marksOf_0 : List UInt8 := [3, 61, 3, 62, 29, 42, 180, 0, 10, 180, 0, 102, 162, 0, 33, 28, 27, 29, 184, 1, 167, 153, 0, 15]
abbrev dktX1_marksOf_0 : List UInt8 := dkwX1_marksOf_0 ++ dktX1_marksOf_1
theorem dksX1_marksOf_0 : cX1_marksOf.data.toList.drop 0 = dktX1_marksOf_0 := by decide +kernel
theorem dksX1_marksOf_1 : cX1_marksOf.data.toList.drop 24 = dktX1_marksOf_1 := dk_seg dksX1_marksOf_0 24 rfl rfl
theorem dX1_marksOf_0 : decode cX1_marksOf 0 = .ok (.iconst 0, 1) := dk_3 (dk_at dksX1_marksOf_0 0 rfl rfl)
theorem dX1_marksOf_1 : decode cX1_marksOf 1 = .ok (.istore_n 2, 1) := dk_61 (dk_at dksX1_marksOf_0 1 rfl rfl)
theorem dX1_marksOf_2 : decode cX1_marksOf 2 = .ok (.iconst 0, 1) := dk_3 (dk_at dksX1_marksOf_0 2 rfl rfl)
theorem dX1_marksOf_3 : decode cX1_marksOf 3 = .ok (.istore_n 3, 1) := dk_62 (dk_at dksX1_marksOf_0 3 rfl rfl)
theorem dX1_marksOf_4 : decode cX1_marksOf 4 = .ok (.iload_n 3, 1) := dk_29 (dk_at dksX1_marksOf_0 4 rfl rfl)
theorem dX1_marksOf_5 : decode cX1_marksOf 5 = .ok (.aload_n 0, 1) := dk_42 (dk_at dksX1_marksOf_0 5 rfl rfl)
theorem dX1_marksOf_6 : decode cX1_marksOf 6 = .ok (.getfield 10, 3) := dk_180 0 10 (dk_at dksX1_marksOf_0 6 rfl rfl)
theorem dX1_marksOf_9 : decode cX1_marksOf 9 = .ok (.getfield 102, 3) := dk_180 0 102 (dk_at dksX1_marksOf_0 9 rfl rfl)
theorem dX1_marksOf_12 : decode cX1_marksOf 12 = .ok (.if_icmp .ge 33, 3) := dk_162 0 33 (dk_at dksX1_marksOf_0 12 rfl rfl)
theorem dX1_marksOf_15 : decode cX1_marksOf 15 = .ok (.iload_n 2, 1) := dk_28 (dk_at dksX1_marksOf_0 15 rfl rfl)
theorem dX1_marksOf_16 : decode cX1_marksOf 16 = .ok (.iload_n 1, 1) := dk_27 (dk_at dksX1_marksOf_0 16 rfl rfl)
theorem dX1_marksOf_17 : decode cX1_marksOf 17 = .ok (.iload_n 3, 1) := dk_29 (dk_at dksX1_marksOf_0 17 rfl rfl)
theorem dX1_marksOf_18 : decode cX1_marksOf 18 = .ok (.invokestatic 423, 3) := dk_184 1 167 (dk_at dksX1_marksOf_0 18 rfl rfl)
theorem dX1_marksOf_21 : decode cX1_marksOf 21 = .ok (.ifCond .eq 15, 3) := dk_153 0 15 (dk_at dksX1_marksOf_0 21 rfl rfl)
theorem dX1_marksOf_24 : decode cX1_marksOf 24 = .ok (.aload_n 0, 1) := dk_42 (dk_at dksX1_marksOf_1 0 rfl rfl)
theorem dX1_marksOf_25 : decode cX1_marksOf 25 = .ok (.getfield 10, 3) := dk_180 0 10 (dk_at dksX1_marksOf_1 1 rfl rfl)
theorem dX1_marksOf_28 : decode cX1_marksOf 28 = .ok (.getfield 109, 3) := dk_180 0 109 (dk_at dksX1_marksOf_1 4 rfl rfl)
theorem dX1_marksOf_31 : decode cX1_marksOf 31 = .ok (.iload_n 3, 1) := dk_29 (dk_at dksX1_marksOf_1 7 rfl rfl)
theorem dX1_marksOf_32 : decode cX1_marksOf 32 = .ok (.iaload, 1) := dk_46 (dk_at dksX1_marksOf_1 8 rfl rfl)
theorem dX1_marksOf_33 : decode cX1_marksOf 33 = .ok (.goto 4, 3) := dk_167 0 4 (dk_at dksX1_marksOf_1 9 rfl rfl)
theorem dX1_marksOf_36 : decode cX1_marksOf 36 = .ok (.iconst 0, 1) := dk_3 (dk_at dksX1_marksOf_1 12 rfl rfl)
theorem dX1_marksOf_37 : decode cX1_marksOf 37 = .ok (.ior, 1) := dk_128 (dk_at dksX1_marksOf_1 13 rfl rfl)
theorem dX1_marksOf_38 : decode cX1_marksOf 38 = .ok (.istore_n 2, 1) := dk_61 (dk_at dksX1_marksOf_1 14 rfl rfl)
theorem dX1_marksOf_39 : decode cX1_marksOf 39 = .ok (.iinc 3 1, 3) := dk_132 3 1 (dk_at dksX1_marksOf_1 15 rfl rfl)
theorem dX1_marksOf_42 : decode cX1_marksOf 42 = .ok (.goto (-38), 3) := dk_167 255 218 (dk_at dksX1_marksOf_1 18 rfl rfl)
theorem dX1_marksOf_45 : decode cX1_marksOf 45 = .ok (.iload_n 2, 1) := dk_28 (dk_at dksX1_marksOf_1 21 rfl rfl)
theorem dX1_marksOf_46 : decode cX1_marksOf 46 = .ok (.ireturn, 1) := dk_172 (dk_at dksX1_marksOf_1 22 rfl rfl)
abbrev cX1_ways : ByteArray := prog_1_method_87_code
def yX1_ways : MethodName := ⟨RX1, "ways", "(I)I"⟩
def dkwX1_ways_1 : List UInt8 := [164, 0, 7, 3, 167, 0, 15, 28, 27, 184, 2, 71, 28, 27, 100, 184, 2, 74, 104, 172]
abbrev dktX1_ways_1 : List UInt8 := dkwX1_ways_1 ++ []
def dkwX1_ways_0 : List UInt8 := [27, 3, 16, 10, 184, 0, 91, 184, 1, 161, 42, 180, 0, 10, 182, 1, 233, 184, 1, 121, 61, 27, 28]
abbrev dktX1_ways_0 : List UInt8 := dkwX1_ways_0 ++ dktX1_ways_1
theorem dksX1_ways_0 : cX1_ways.data.toList.drop 0 = dktX1_ways_0 := by decide +kernel
theorem dksX1_ways_1 : cX1_ways.data.toList.drop 23 = dktX1_ways_1 := dk_seg dksX1_ways_0 23 rfl rfl
theorem dX1_ways_0 : decode cX1_ways 0 = .ok (.iload_n 1, 1) := dk_27 (dk_at dksX1_ways_0 0 rfl rfl)
theorem dX1_ways_1 : decode cX1_ways 1 = .ok (.iconst 0, 1) := dk_3 (dk_at dksX1_ways_0 1 rfl rfl)
theorem dX1_ways_2 : decode cX1_ways 2 = .ok (.bipush 10, 2) := dk_16 10 (dk_at dksX1_ways_0 2 rfl rfl)
theorem dX1_ways_4 : decode cX1_ways 4 = .ok (.invokestatic 91, 3) := dk_184 0 91 (dk_at dksX1_ways_0 4 rfl rfl)
theorem dX1_ways_7 : decode cX1_ways 7 = .ok (.invokestatic 417, 3) := dk_184 1 161 (dk_at dksX1_ways_0 7 rfl rfl)
theorem dX1_ways_10 : decode cX1_ways 10 = .ok (.aload_n 0, 1) := dk_42 (dk_at dksX1_ways_0 10 rfl rfl)
theorem dX1_ways_11 : decode cX1_ways 11 = .ok (.getfield 10, 3) := dk_180 0 10 (dk_at dksX1_ways_0 11 rfl rfl)
theorem dX1_ways_14 : decode cX1_ways 14 = .ok (.invokevirtual 489, 3) := dk_182 1 233 (dk_at dksX1_ways_0 14 rfl rfl)
theorem dX1_ways_17 : decode cX1_ways 17 = .ok (.invokestatic 377, 3) := dk_184 1 121 (dk_at dksX1_ways_0 17 rfl rfl)
theorem dX1_ways_20 : decode cX1_ways 20 = .ok (.istore_n 2, 1) := dk_61 (dk_at dksX1_ways_0 20 rfl rfl)
theorem dX1_ways_21 : decode cX1_ways 21 = .ok (.iload_n 1, 1) := dk_27 (dk_at dksX1_ways_0 21 rfl rfl)
theorem dX1_ways_22 : decode cX1_ways 22 = .ok (.iload_n 2, 1) := dk_28 (dk_at dksX1_ways_0 22 rfl rfl)
theorem dX1_ways_23 : decode cX1_ways 23 = .ok (.if_icmp .le 7, 3) := dk_164 0 7 (dk_at dksX1_ways_1 0 rfl rfl)
theorem dX1_ways_26 : decode cX1_ways 26 = .ok (.iconst 0, 1) := dk_3 (dk_at dksX1_ways_1 3 rfl rfl)
theorem dX1_ways_27 : decode cX1_ways 27 = .ok (.goto 15, 3) := dk_167 0 15 (dk_at dksX1_ways_1 4 rfl rfl)
theorem dX1_ways_30 : decode cX1_ways 30 = .ok (.iload_n 2, 1) := dk_28 (dk_at dksX1_ways_1 7 rfl rfl)
theorem dX1_ways_31 : decode cX1_ways 31 = .ok (.iload_n 1, 1) := dk_27 (dk_at dksX1_ways_1 8 rfl rfl)
theorem dX1_ways_32 : decode cX1_ways 32 = .ok (.invokestatic 583, 3) := dk_184 2 71 (dk_at dksX1_ways_1 9 rfl rfl)
theorem dX1_ways_35 : decode cX1_ways 35 = .ok (.iload_n 2, 1) := dk_28 (dk_at dksX1_ways_1 12 rfl rfl)
theorem dX1_ways_36 : decode cX1_ways 36 = .ok (.iload_n 1, 1) := dk_27 (dk_at dksX1_ways_1 13 rfl rfl)
theorem dX1_ways_37 : decode cX1_ways 37 = .ok (.isub, 1) := dk_100 (dk_at dksX1_ways_1 14 rfl rfl)
theorem dX1_ways_38 : decode cX1_ways 38 = .ok (.invokestatic 586, 3) := dk_184 2 74 (dk_at dksX1_ways_1 15 rfl rfl)
theorem dX1_ways_41 : decode cX1_ways 41 = .ok (.imul, 1) := dk_104 (dk_at dksX1_ways_1 18 rfl rfl)
theorem dX1_ways_42 : decode cX1_ways 42 = .ok (.ireturn, 1) := dk_172 (dk_at dksX1_ways_1 19 rfl rfl)
abbrev cX1_choices : ByteArray := prog_1_method_86_code
def yX1_choices : MethodName := ⟨RX1, "choices", "(II)I"⟩
def dkwX1_choices_1 : List UInt8 := [167, 255, 238, 28, 172]
abbrev dktX1_choices_1 : List UInt8 := dkwX1_choices_1 ++ []
def dkwX1_choices_0 : List UInt8 := [4, 61, 3, 62, 29, 27, 162, 0, 19, 28, 26, 29, 100, 104, 29, 4, 96, 108, 61, 132, 3, 1]
abbrev dktX1_choices_0 : List UInt8 := dkwX1_choices_0 ++ dktX1_choices_1
theorem dksX1_choices_0 : cX1_choices.data.toList.drop 0 = dktX1_choices_0 := by decide +kernel
theorem dksX1_choices_1 : cX1_choices.data.toList.drop 22 = dktX1_choices_1 := dk_seg dksX1_choices_0 22 rfl rfl
theorem dX1_choices_0 : decode cX1_choices 0 = .ok (.iconst 1, 1) := dk_4 (dk_at dksX1_choices_0 0 rfl rfl)
theorem dX1_choices_1 : decode cX1_choices 1 = .ok (.istore_n 2, 1) := dk_61 (dk_at dksX1_choices_0 1 rfl rfl)
theorem dX1_choices_2 : decode cX1_choices 2 = .ok (.iconst 0, 1) := dk_3 (dk_at dksX1_choices_0 2 rfl rfl)
theorem dX1_choices_3 : decode cX1_choices 3 = .ok (.istore_n 3, 1) := dk_62 (dk_at dksX1_choices_0 3 rfl rfl)
theorem dX1_choices_4 : decode cX1_choices 4 = .ok (.iload_n 3, 1) := dk_29 (dk_at dksX1_choices_0 4 rfl rfl)
theorem dX1_choices_5 : decode cX1_choices 5 = .ok (.iload_n 1, 1) := dk_27 (dk_at dksX1_choices_0 5 rfl rfl)
theorem dX1_choices_6 : decode cX1_choices 6 = .ok (.if_icmp .ge 19, 3) := dk_162 0 19 (dk_at dksX1_choices_0 6 rfl rfl)
theorem dX1_choices_9 : decode cX1_choices 9 = .ok (.iload_n 2, 1) := dk_28 (dk_at dksX1_choices_0 9 rfl rfl)
theorem dX1_choices_10 : decode cX1_choices 10 = .ok (.iload_n 0, 1) := dk_26 (dk_at dksX1_choices_0 10 rfl rfl)
theorem dX1_choices_11 : decode cX1_choices 11 = .ok (.iload_n 3, 1) := dk_29 (dk_at dksX1_choices_0 11 rfl rfl)
theorem dX1_choices_12 : decode cX1_choices 12 = .ok (.isub, 1) := dk_100 (dk_at dksX1_choices_0 12 rfl rfl)
theorem dX1_choices_13 : decode cX1_choices 13 = .ok (.imul, 1) := dk_104 (dk_at dksX1_choices_0 13 rfl rfl)
theorem dX1_choices_14 : decode cX1_choices 14 = .ok (.iload_n 3, 1) := dk_29 (dk_at dksX1_choices_0 14 rfl rfl)
theorem dX1_choices_15 : decode cX1_choices 15 = .ok (.iconst 1, 1) := dk_4 (dk_at dksX1_choices_0 15 rfl rfl)
theorem dX1_choices_16 : decode cX1_choices 16 = .ok (.iadd, 1) := dk_96 (dk_at dksX1_choices_0 16 rfl rfl)
theorem dX1_choices_17 : decode cX1_choices 17 = .ok (.idiv, 1) := dk_108 (dk_at dksX1_choices_0 17 rfl rfl)
theorem dX1_choices_18 : decode cX1_choices 18 = .ok (.istore_n 2, 1) := dk_61 (dk_at dksX1_choices_0 18 rfl rfl)
theorem dX1_choices_19 : decode cX1_choices 19 = .ok (.iinc 3 1, 3) := dk_132 3 1 (dk_at dksX1_choices_0 19 rfl rfl)
theorem dX1_choices_22 : decode cX1_choices 22 = .ok (.goto (-18), 3) := dk_167 255 238 (dk_at dksX1_choices_1 0 rfl rfl)
theorem dX1_choices_25 : decode cX1_choices 25 = .ok (.iload_n 2, 1) := dk_28 (dk_at dksX1_choices_1 3 rfl rfl)
theorem dX1_choices_26 : decode cX1_choices 26 = .ok (.ireturn, 1) := dk_172 (dk_at dksX1_choices_1 4 rfl rfl)
abbrev cX1_astray : ByteArray := prog_1_method_85_code
def yX1_astray : MethodName := ⟨RX1, "astray", "(I)I"⟩
def dkwX1_astray_1 : List UInt8 := [61, 132, 3, 1, 167, 255, 234, 26, 154, 0, 7, 4, 167, 0, 4, 28, 172]
abbrev dktX1_astray_1 : List UInt8 := dkwX1_astray_1 ++ []
def dkwX1_astray_0 : List UInt8 := [4, 60, 3, 61, 5, 62, 29, 26, 163, 0, 23, 29, 4, 100, 27, 28, 96, 104, 54, 4, 28, 60, 21, 4]
abbrev dktX1_astray_0 : List UInt8 := dkwX1_astray_0 ++ dktX1_astray_1
theorem dksX1_astray_0 : cX1_astray.data.toList.drop 0 = dktX1_astray_0 := by decide +kernel
theorem dksX1_astray_1 : cX1_astray.data.toList.drop 24 = dktX1_astray_1 := dk_seg dksX1_astray_0 24 rfl rfl
theorem dX1_astray_0 : decode cX1_astray 0 = .ok (.iconst 1, 1) := dk_4 (dk_at dksX1_astray_0 0 rfl rfl)
theorem dX1_astray_1 : decode cX1_astray 1 = .ok (.istore_n 1, 1) := dk_60 (dk_at dksX1_astray_0 1 rfl rfl)
theorem dX1_astray_2 : decode cX1_astray 2 = .ok (.iconst 0, 1) := dk_3 (dk_at dksX1_astray_0 2 rfl rfl)
theorem dX1_astray_3 : decode cX1_astray 3 = .ok (.istore_n 2, 1) := dk_61 (dk_at dksX1_astray_0 3 rfl rfl)
theorem dX1_astray_4 : decode cX1_astray 4 = .ok (.iconst 2, 1) := dk_5 (dk_at dksX1_astray_0 4 rfl rfl)
theorem dX1_astray_5 : decode cX1_astray 5 = .ok (.istore_n 3, 1) := dk_62 (dk_at dksX1_astray_0 5 rfl rfl)
theorem dX1_astray_6 : decode cX1_astray 6 = .ok (.iload_n 3, 1) := dk_29 (dk_at dksX1_astray_0 6 rfl rfl)
theorem dX1_astray_7 : decode cX1_astray 7 = .ok (.iload_n 0, 1) := dk_26 (dk_at dksX1_astray_0 7 rfl rfl)
theorem dX1_astray_8 : decode cX1_astray 8 = .ok (.if_icmp .gt 23, 3) := dk_163 0 23 (dk_at dksX1_astray_0 8 rfl rfl)
theorem dX1_astray_11 : decode cX1_astray 11 = .ok (.iload_n 3, 1) := dk_29 (dk_at dksX1_astray_0 11 rfl rfl)
theorem dX1_astray_12 : decode cX1_astray 12 = .ok (.iconst 1, 1) := dk_4 (dk_at dksX1_astray_0 12 rfl rfl)
theorem dX1_astray_13 : decode cX1_astray 13 = .ok (.isub, 1) := dk_100 (dk_at dksX1_astray_0 13 rfl rfl)
theorem dX1_astray_14 : decode cX1_astray 14 = .ok (.iload_n 1, 1) := dk_27 (dk_at dksX1_astray_0 14 rfl rfl)
theorem dX1_astray_15 : decode cX1_astray 15 = .ok (.iload_n 2, 1) := dk_28 (dk_at dksX1_astray_0 15 rfl rfl)
theorem dX1_astray_16 : decode cX1_astray 16 = .ok (.iadd, 1) := dk_96 (dk_at dksX1_astray_0 16 rfl rfl)
theorem dX1_astray_17 : decode cX1_astray 17 = .ok (.imul, 1) := dk_104 (dk_at dksX1_astray_0 17 rfl rfl)
theorem dX1_astray_18 : decode cX1_astray 18 = .ok (.istore 4, 2) := dk_54 4 (dk_at dksX1_astray_0 18 rfl rfl)
theorem dX1_astray_20 : decode cX1_astray 20 = .ok (.iload_n 2, 1) := dk_28 (dk_at dksX1_astray_0 20 rfl rfl)
theorem dX1_astray_21 : decode cX1_astray 21 = .ok (.istore_n 1, 1) := dk_60 (dk_at dksX1_astray_0 21 rfl rfl)
theorem dX1_astray_22 : decode cX1_astray 22 = .ok (.iload 4, 2) := dk_21 4 (dk_at dksX1_astray_0 22 rfl rfl)
theorem dX1_astray_24 : decode cX1_astray 24 = .ok (.istore_n 2, 1) := dk_61 (dk_at dksX1_astray_1 0 rfl rfl)
theorem dX1_astray_25 : decode cX1_astray 25 = .ok (.iinc 3 1, 3) := dk_132 3 1 (dk_at dksX1_astray_1 1 rfl rfl)
theorem dX1_astray_28 : decode cX1_astray 28 = .ok (.goto (-22), 3) := dk_167 255 234 (dk_at dksX1_astray_1 4 rfl rfl)
theorem dX1_astray_31 : decode cX1_astray 31 = .ok (.iload_n 0, 1) := dk_26 (dk_at dksX1_astray_1 7 rfl rfl)
theorem dX1_astray_32 : decode cX1_astray 32 = .ok (.ifCond .ne 7, 3) := dk_154 0 7 (dk_at dksX1_astray_1 8 rfl rfl)
theorem dX1_astray_35 : decode cX1_astray 35 = .ok (.iconst 1, 1) := dk_4 (dk_at dksX1_astray_1 11 rfl rfl)
theorem dX1_astray_36 : decode cX1_astray 36 = .ok (.goto 4, 3) := dk_167 0 4 (dk_at dksX1_astray_1 12 rfl rfl)
theorem dX1_astray_39 : decode cX1_astray 39 = .ok (.iload_n 2, 1) := dk_28 (dk_at dksX1_astray_1 15 rfl rfl)
theorem dX1_astray_40 : decode cX1_astray 40 = .ok (.ireturn, 1) := dk_172 (dk_at dksX1_astray_1 16 rfl rfl)
abbrev cX1_talk : ByteArray := prog_1_method_89_code
def yX1_talk : MethodName := ⟨RX1, "talk", "(I)I"⟩
def dkwX1_talk_3 : List UInt8 := [28, 21, 4, 96, 46, 120, 128, 62, 132, 4, 1, 167, 255, 226, 29, 172]
abbrev dktX1_talk_3 : List UInt8 := dkwX1_talk_3 ++ []
def dkwX1_talk_2 : List UInt8 := [3, 62, 3, 54, 4, 21, 4, 42, 28, 182, 2, 77, 162, 0, 26, 29, 4, 42, 180, 0, 10, 180, 0, 160]
abbrev dktX1_talk_2 : List UInt8 := dkwX1_talk_2 ++ dktX1_talk_3
def dkwX1_talk_1 : List UInt8 := [158, 0, 24, 42, 180, 0, 10, 180, 0, 160, 28, 4, 100, 46, 2, 159, 0, 9, 132, 2, 255, 167, 255, 234]
abbrev dktX1_talk_1 : List UInt8 := dkwX1_talk_1 ++ dktX1_talk_2
def dkwX1_talk_0 : List UInt8 := [42, 27, 182, 1, 185, 42, 180, 0, 10, 180, 0, 160, 27, 46, 2, 160, 0, 5, 3, 172, 27, 61, 28]
abbrev dktX1_talk_0 : List UInt8 := dkwX1_talk_0 ++ dktX1_talk_1
theorem dksX1_talk_0 : cX1_talk.data.toList.drop 0 = dktX1_talk_0 := by decide +kernel
theorem dksX1_talk_1 : cX1_talk.data.toList.drop 23 = dktX1_talk_1 := dk_seg dksX1_talk_0 23 rfl rfl
theorem dksX1_talk_2 : cX1_talk.data.toList.drop 47 = dktX1_talk_2 := dk_seg dksX1_talk_1 24 rfl rfl
theorem dksX1_talk_3 : cX1_talk.data.toList.drop 71 = dktX1_talk_3 := dk_seg dksX1_talk_2 24 rfl rfl
theorem dX1_talk_0 : decode cX1_talk 0 = .ok (.aload_n 0, 1) := dk_42 (dk_at dksX1_talk_0 0 rfl rfl)
theorem dX1_talk_1 : decode cX1_talk 1 = .ok (.iload_n 1, 1) := dk_27 (dk_at dksX1_talk_0 1 rfl rfl)
theorem dX1_talk_2 : decode cX1_talk 2 = .ok (.invokevirtual 441, 3) := dk_182 1 185 (dk_at dksX1_talk_0 2 rfl rfl)
theorem dX1_talk_5 : decode cX1_talk 5 = .ok (.aload_n 0, 1) := dk_42 (dk_at dksX1_talk_0 5 rfl rfl)
theorem dX1_talk_6 : decode cX1_talk 6 = .ok (.getfield 10, 3) := dk_180 0 10 (dk_at dksX1_talk_0 6 rfl rfl)
theorem dX1_talk_9 : decode cX1_talk 9 = .ok (.getfield 160, 3) := dk_180 0 160 (dk_at dksX1_talk_0 9 rfl rfl)
theorem dX1_talk_12 : decode cX1_talk 12 = .ok (.iload_n 1, 1) := dk_27 (dk_at dksX1_talk_0 12 rfl rfl)
theorem dX1_talk_13 : decode cX1_talk 13 = .ok (.iaload, 1) := dk_46 (dk_at dksX1_talk_0 13 rfl rfl)
theorem dX1_talk_14 : decode cX1_talk 14 = .ok (.iconst (-1), 1) := dk_2 (dk_at dksX1_talk_0 14 rfl rfl)
theorem dX1_talk_15 : decode cX1_talk 15 = .ok (.if_icmp .ne 5, 3) := dk_160 0 5 (dk_at dksX1_talk_0 15 rfl rfl)
theorem dX1_talk_18 : decode cX1_talk 18 = .ok (.iconst 0, 1) := dk_3 (dk_at dksX1_talk_0 18 rfl rfl)
theorem dX1_talk_19 : decode cX1_talk 19 = .ok (.ireturn, 1) := dk_172 (dk_at dksX1_talk_0 19 rfl rfl)
theorem dX1_talk_20 : decode cX1_talk 20 = .ok (.iload_n 1, 1) := dk_27 (dk_at dksX1_talk_0 20 rfl rfl)
theorem dX1_talk_21 : decode cX1_talk 21 = .ok (.istore_n 2, 1) := dk_61 (dk_at dksX1_talk_0 21 rfl rfl)
theorem dX1_talk_22 : decode cX1_talk 22 = .ok (.iload_n 2, 1) := dk_28 (dk_at dksX1_talk_0 22 rfl rfl)
theorem dX1_talk_23 : decode cX1_talk 23 = .ok (.ifCond .le 24, 3) := dk_158 0 24 (dk_at dksX1_talk_1 0 rfl rfl)
theorem dX1_talk_26 : decode cX1_talk 26 = .ok (.aload_n 0, 1) := dk_42 (dk_at dksX1_talk_1 3 rfl rfl)
theorem dX1_talk_27 : decode cX1_talk 27 = .ok (.getfield 10, 3) := dk_180 0 10 (dk_at dksX1_talk_1 4 rfl rfl)
theorem dX1_talk_30 : decode cX1_talk 30 = .ok (.getfield 160, 3) := dk_180 0 160 (dk_at dksX1_talk_1 7 rfl rfl)
theorem dX1_talk_33 : decode cX1_talk 33 = .ok (.iload_n 2, 1) := dk_28 (dk_at dksX1_talk_1 10 rfl rfl)
theorem dX1_talk_34 : decode cX1_talk 34 = .ok (.iconst 1, 1) := dk_4 (dk_at dksX1_talk_1 11 rfl rfl)
theorem dX1_talk_35 : decode cX1_talk 35 = .ok (.isub, 1) := dk_100 (dk_at dksX1_talk_1 12 rfl rfl)
theorem dX1_talk_36 : decode cX1_talk 36 = .ok (.iaload, 1) := dk_46 (dk_at dksX1_talk_1 13 rfl rfl)
theorem dX1_talk_37 : decode cX1_talk 37 = .ok (.iconst (-1), 1) := dk_2 (dk_at dksX1_talk_1 14 rfl rfl)
theorem dX1_talk_38 : decode cX1_talk 38 = .ok (.if_icmp .eq 9, 3) := dk_159 0 9 (dk_at dksX1_talk_1 15 rfl rfl)
theorem dX1_talk_41 : decode cX1_talk 41 = .ok (.iinc 2 (-1), 3) := dk_132 2 255 (dk_at dksX1_talk_1 18 rfl rfl)
theorem dX1_talk_44 : decode cX1_talk 44 = .ok (.goto (-22), 3) := dk_167 255 234 (dk_at dksX1_talk_1 21 rfl rfl)
theorem dX1_talk_47 : decode cX1_talk 47 = .ok (.iconst 0, 1) := dk_3 (dk_at dksX1_talk_2 0 rfl rfl)
theorem dX1_talk_48 : decode cX1_talk 48 = .ok (.istore_n 3, 1) := dk_62 (dk_at dksX1_talk_2 1 rfl rfl)
theorem dX1_talk_49 : decode cX1_talk 49 = .ok (.iconst 0, 1) := dk_3 (dk_at dksX1_talk_2 2 rfl rfl)
theorem dX1_talk_50 : decode cX1_talk 50 = .ok (.istore 4, 2) := dk_54 4 (dk_at dksX1_talk_2 3 rfl rfl)
theorem dX1_talk_52 : decode cX1_talk 52 = .ok (.iload 4, 2) := dk_21 4 (dk_at dksX1_talk_2 5 rfl rfl)
theorem dX1_talk_54 : decode cX1_talk 54 = .ok (.aload_n 0, 1) := dk_42 (dk_at dksX1_talk_2 7 rfl rfl)
theorem dX1_talk_55 : decode cX1_talk 55 = .ok (.iload_n 2, 1) := dk_28 (dk_at dksX1_talk_2 8 rfl rfl)
theorem dX1_talk_56 : decode cX1_talk 56 = .ok (.invokevirtual 589, 3) := dk_182 2 77 (dk_at dksX1_talk_2 9 rfl rfl)
theorem dX1_talk_59 : decode cX1_talk 59 = .ok (.if_icmp .ge 26, 3) := dk_162 0 26 (dk_at dksX1_talk_2 12 rfl rfl)
theorem dX1_talk_62 : decode cX1_talk 62 = .ok (.iload_n 3, 1) := dk_29 (dk_at dksX1_talk_2 15 rfl rfl)
theorem dX1_talk_63 : decode cX1_talk 63 = .ok (.iconst 1, 1) := dk_4 (dk_at dksX1_talk_2 16 rfl rfl)
theorem dX1_talk_64 : decode cX1_talk 64 = .ok (.aload_n 0, 1) := dk_42 (dk_at dksX1_talk_2 17 rfl rfl)
theorem dX1_talk_65 : decode cX1_talk 65 = .ok (.getfield 10, 3) := dk_180 0 10 (dk_at dksX1_talk_2 18 rfl rfl)
theorem dX1_talk_68 : decode cX1_talk 68 = .ok (.getfield 160, 3) := dk_180 0 160 (dk_at dksX1_talk_2 21 rfl rfl)
theorem dX1_talk_71 : decode cX1_talk 71 = .ok (.iload_n 2, 1) := dk_28 (dk_at dksX1_talk_3 0 rfl rfl)
theorem dX1_talk_72 : decode cX1_talk 72 = .ok (.iload 4, 2) := dk_21 4 (dk_at dksX1_talk_3 1 rfl rfl)
theorem dX1_talk_74 : decode cX1_talk 74 = .ok (.iadd, 1) := dk_96 (dk_at dksX1_talk_3 3 rfl rfl)
theorem dX1_talk_75 : decode cX1_talk 75 = .ok (.iaload, 1) := dk_46 (dk_at dksX1_talk_3 4 rfl rfl)
theorem dX1_talk_76 : decode cX1_talk 76 = .ok (.ishl, 1) := dk_120 (dk_at dksX1_talk_3 5 rfl rfl)
theorem dX1_talk_77 : decode cX1_talk 77 = .ok (.ior, 1) := dk_128 (dk_at dksX1_talk_3 6 rfl rfl)
theorem dX1_talk_78 : decode cX1_talk 78 = .ok (.istore_n 3, 1) := dk_62 (dk_at dksX1_talk_3 7 rfl rfl)
theorem dX1_talk_79 : decode cX1_talk 79 = .ok (.iinc 4 1, 3) := dk_132 4 1 (dk_at dksX1_talk_3 8 rfl rfl)
theorem dX1_talk_82 : decode cX1_talk 82 = .ok (.goto (-30), 3) := dk_167 255 226 (dk_at dksX1_talk_3 11 rfl rfl)
theorem dX1_talk_85 : decode cX1_talk 85 = .ok (.iload_n 3, 1) := dk_29 (dk_at dksX1_talk_3 14 rfl rfl)
theorem dX1_talk_86 : decode cX1_talk 86 = .ok (.ireturn, 1) := dk_172 (dk_at dksX1_talk_3 15 rfl rfl)
abbrev cX1_chain : ByteArray := prog_1_method_91_code
def yX1_chain : MethodName := ⟨RX1, "chain", "(II)I"⟩
def dkwX1_chain_4 : List UInt8 := [2, 172]
abbrev dktX1_chain_4 : List UInt8 := dkwX1_chain_4 ++ []
def dkwX1_chain_3 : List UInt8 := [167, 255, 213, 21, 5, 28, 184, 1, 167, 153, 0, 6, 21, 4, 172, 21, 5, 62, 132, 4, 1, 167, 255, 179]
abbrev dktX1_chain_3 : List UInt8 := dkwX1_chain_3 ++ dktX1_chain_4
def dkwX1_chain_2 : List UInt8 := [153, 0, 16, 42, 180, 0, 10, 180, 0, 129, 21, 6, 46, 167, 0, 4, 3, 128, 54, 5, 132, 6, 1]
abbrev dktX1_chain_2 : List UInt8 := dkwX1_chain_2 ++ dktX1_chain_3
def dkwX1_chain_1 : List UInt8 := [54, 6, 21, 6, 42, 180, 0, 10, 180, 0, 102, 162, 0, 37, 21, 5, 29, 21, 6, 184, 1, 167]
abbrev dktX1_chain_1 : List UInt8 := dkwX1_chain_1 ++ dktX1_chain_2
def dkwX1_chain_0 : List UInt8 := [42, 27, 28, 182, 1, 188, 4, 27, 120, 62, 4, 54, 4, 21, 4, 16, 10, 162, 0, 76, 29, 54, 5, 3]
abbrev dktX1_chain_0 : List UInt8 := dkwX1_chain_0 ++ dktX1_chain_1
theorem dksX1_chain_0 : cX1_chain.data.toList.drop 0 = dktX1_chain_0 := by decide +kernel
theorem dksX1_chain_1 : cX1_chain.data.toList.drop 24 = dktX1_chain_1 := dk_seg dksX1_chain_0 24 rfl rfl
theorem dksX1_chain_2 : cX1_chain.data.toList.drop 46 = dktX1_chain_2 := dk_seg dksX1_chain_1 22 rfl rfl
theorem dksX1_chain_3 : cX1_chain.data.toList.drop 69 = dktX1_chain_3 := dk_seg dksX1_chain_2 23 rfl rfl
theorem dksX1_chain_4 : cX1_chain.data.toList.drop 93 = dktX1_chain_4 := dk_seg dksX1_chain_3 24 rfl rfl
theorem dX1_chain_0 : decode cX1_chain 0 = .ok (.aload_n 0, 1) := dk_42 (dk_at dksX1_chain_0 0 rfl rfl)
theorem dX1_chain_1 : decode cX1_chain 1 = .ok (.iload_n 1, 1) := dk_27 (dk_at dksX1_chain_0 1 rfl rfl)
theorem dX1_chain_2 : decode cX1_chain 2 = .ok (.iload_n 2, 1) := dk_28 (dk_at dksX1_chain_0 2 rfl rfl)
theorem dX1_chain_3 : decode cX1_chain 3 = .ok (.invokevirtual 444, 3) := dk_182 1 188 (dk_at dksX1_chain_0 3 rfl rfl)
theorem dX1_chain_6 : decode cX1_chain 6 = .ok (.iconst 1, 1) := dk_4 (dk_at dksX1_chain_0 6 rfl rfl)
theorem dX1_chain_7 : decode cX1_chain 7 = .ok (.iload_n 1, 1) := dk_27 (dk_at dksX1_chain_0 7 rfl rfl)
theorem dX1_chain_8 : decode cX1_chain 8 = .ok (.ishl, 1) := dk_120 (dk_at dksX1_chain_0 8 rfl rfl)
theorem dX1_chain_9 : decode cX1_chain 9 = .ok (.istore_n 3, 1) := dk_62 (dk_at dksX1_chain_0 9 rfl rfl)
theorem dX1_chain_10 : decode cX1_chain 10 = .ok (.iconst 1, 1) := dk_4 (dk_at dksX1_chain_0 10 rfl rfl)
theorem dX1_chain_11 : decode cX1_chain 11 = .ok (.istore 4, 2) := dk_54 4 (dk_at dksX1_chain_0 11 rfl rfl)
theorem dX1_chain_13 : decode cX1_chain 13 = .ok (.iload 4, 2) := dk_21 4 (dk_at dksX1_chain_0 13 rfl rfl)
theorem dX1_chain_15 : decode cX1_chain 15 = .ok (.bipush 10, 2) := dk_16 10 (dk_at dksX1_chain_0 15 rfl rfl)
theorem dX1_chain_17 : decode cX1_chain 17 = .ok (.if_icmp .ge 76, 3) := dk_162 0 76 (dk_at dksX1_chain_0 17 rfl rfl)
theorem dX1_chain_20 : decode cX1_chain 20 = .ok (.iload_n 3, 1) := dk_29 (dk_at dksX1_chain_0 20 rfl rfl)
theorem dX1_chain_21 : decode cX1_chain 21 = .ok (.istore 5, 2) := dk_54 5 (dk_at dksX1_chain_0 21 rfl rfl)
theorem dX1_chain_23 : decode cX1_chain 23 = .ok (.iconst 0, 1) := dk_3 (dk_at dksX1_chain_0 23 rfl rfl)
theorem dX1_chain_24 : decode cX1_chain 24 = .ok (.istore 6, 2) := dk_54 6 (dk_at dksX1_chain_1 0 rfl rfl)
theorem dX1_chain_26 : decode cX1_chain 26 = .ok (.iload 6, 2) := dk_21 6 (dk_at dksX1_chain_1 2 rfl rfl)
theorem dX1_chain_28 : decode cX1_chain 28 = .ok (.aload_n 0, 1) := dk_42 (dk_at dksX1_chain_1 4 rfl rfl)
theorem dX1_chain_29 : decode cX1_chain 29 = .ok (.getfield 10, 3) := dk_180 0 10 (dk_at dksX1_chain_1 5 rfl rfl)
theorem dX1_chain_32 : decode cX1_chain 32 = .ok (.getfield 102, 3) := dk_180 0 102 (dk_at dksX1_chain_1 8 rfl rfl)
theorem dX1_chain_35 : decode cX1_chain 35 = .ok (.if_icmp .ge 37, 3) := dk_162 0 37 (dk_at dksX1_chain_1 11 rfl rfl)
theorem dX1_chain_38 : decode cX1_chain 38 = .ok (.iload 5, 2) := dk_21 5 (dk_at dksX1_chain_1 14 rfl rfl)
theorem dX1_chain_40 : decode cX1_chain 40 = .ok (.iload_n 3, 1) := dk_29 (dk_at dksX1_chain_1 16 rfl rfl)
theorem dX1_chain_41 : decode cX1_chain 41 = .ok (.iload 6, 2) := dk_21 6 (dk_at dksX1_chain_1 17 rfl rfl)
theorem dX1_chain_43 : decode cX1_chain 43 = .ok (.invokestatic 423, 3) := dk_184 1 167 (dk_at dksX1_chain_1 19 rfl rfl)
theorem dX1_chain_46 : decode cX1_chain 46 = .ok (.ifCond .eq 16, 3) := dk_153 0 16 (dk_at dksX1_chain_2 0 rfl rfl)
theorem dX1_chain_49 : decode cX1_chain 49 = .ok (.aload_n 0, 1) := dk_42 (dk_at dksX1_chain_2 3 rfl rfl)
theorem dX1_chain_50 : decode cX1_chain 50 = .ok (.getfield 10, 3) := dk_180 0 10 (dk_at dksX1_chain_2 4 rfl rfl)
theorem dX1_chain_53 : decode cX1_chain 53 = .ok (.getfield 129, 3) := dk_180 0 129 (dk_at dksX1_chain_2 7 rfl rfl)
theorem dX1_chain_56 : decode cX1_chain 56 = .ok (.iload 6, 2) := dk_21 6 (dk_at dksX1_chain_2 10 rfl rfl)
theorem dX1_chain_58 : decode cX1_chain 58 = .ok (.iaload, 1) := dk_46 (dk_at dksX1_chain_2 12 rfl rfl)
theorem dX1_chain_59 : decode cX1_chain 59 = .ok (.goto 4, 3) := dk_167 0 4 (dk_at dksX1_chain_2 13 rfl rfl)
theorem dX1_chain_62 : decode cX1_chain 62 = .ok (.iconst 0, 1) := dk_3 (dk_at dksX1_chain_2 16 rfl rfl)
theorem dX1_chain_63 : decode cX1_chain 63 = .ok (.ior, 1) := dk_128 (dk_at dksX1_chain_2 17 rfl rfl)
theorem dX1_chain_64 : decode cX1_chain 64 = .ok (.istore 5, 2) := dk_54 5 (dk_at dksX1_chain_2 18 rfl rfl)
theorem dX1_chain_66 : decode cX1_chain 66 = .ok (.iinc 6 1, 3) := dk_132 6 1 (dk_at dksX1_chain_2 20 rfl rfl)
theorem dX1_chain_69 : decode cX1_chain 69 = .ok (.goto (-43), 3) := dk_167 255 213 (dk_at dksX1_chain_3 0 rfl rfl)
theorem dX1_chain_72 : decode cX1_chain 72 = .ok (.iload 5, 2) := dk_21 5 (dk_at dksX1_chain_3 3 rfl rfl)
theorem dX1_chain_74 : decode cX1_chain 74 = .ok (.iload_n 2, 1) := dk_28 (dk_at dksX1_chain_3 5 rfl rfl)
theorem dX1_chain_75 : decode cX1_chain 75 = .ok (.invokestatic 423, 3) := dk_184 1 167 (dk_at dksX1_chain_3 6 rfl rfl)
theorem dX1_chain_78 : decode cX1_chain 78 = .ok (.ifCond .eq 6, 3) := dk_153 0 6 (dk_at dksX1_chain_3 9 rfl rfl)
theorem dX1_chain_81 : decode cX1_chain 81 = .ok (.iload 4, 2) := dk_21 4 (dk_at dksX1_chain_3 12 rfl rfl)
theorem dX1_chain_83 : decode cX1_chain 83 = .ok (.ireturn, 1) := dk_172 (dk_at dksX1_chain_3 14 rfl rfl)
theorem dX1_chain_84 : decode cX1_chain 84 = .ok (.iload 5, 2) := dk_21 5 (dk_at dksX1_chain_3 15 rfl rfl)
theorem dX1_chain_86 : decode cX1_chain 86 = .ok (.istore_n 3, 1) := dk_62 (dk_at dksX1_chain_3 17 rfl rfl)
theorem dX1_chain_87 : decode cX1_chain 87 = .ok (.iinc 4 1, 3) := dk_132 4 1 (dk_at dksX1_chain_3 18 rfl rfl)
theorem dX1_chain_90 : decode cX1_chain 90 = .ok (.goto (-77), 3) := dk_167 255 179 (dk_at dksX1_chain_3 21 rfl rfl)
theorem dX1_chain_93 : decode cX1_chain 93 = .ok (.iconst (-1), 1) := dk_2 (dk_at dksX1_chain_4 0 rfl rfl)
theorem dX1_chain_94 : decode cX1_chain 94 = .ok (.ireturn, 1) := dk_172 (dk_at dksX1_chain_4 1 rfl rfl)
abbrev cX1_hears : ByteArray := prog_1_method_92_code
def yX1_hears : MethodName := ⟨RX1, "hears", "(II)I"⟩
def dkwX1_hears_5 : List UInt8 := [167, 255, 170, 45, 180, 0, 129, 27, 46, 172]
abbrev dktX1_hears_5 : List UInt8 := dkwX1_hears_5 ++ []
def dkwX1_hears_4 : List UInt8 := [45, 21, 5, 21, 6, 182, 1, 220, 132, 6, 1, 167, 255, 206, 132, 5, 1, 167, 255, 185, 132, 4, 1]
abbrev dktX1_hears_4 : List UInt8 := dkwX1_hears_4 ++ dktX1_hears_5
def dkwX1_hears_3 : List UInt8 := [46, 21, 6, 184, 1, 167, 153, 0, 26, 45, 180, 0, 129, 21, 6, 46, 21, 5, 184, 1, 167, 153, 0, 11]
abbrev dktX1_hears_3 : List UInt8 := dkwX1_hears_3 ++ dktX1_hears_4
def dkwX1_hears_2 : List UInt8 := [162, 0, 68, 21, 5, 4, 96, 54, 6, 21, 6, 45, 180, 0, 102, 162, 0, 47, 45, 180, 0, 129, 21, 5]
abbrev dktX1_hears_2 : List UInt8 := dkwX1_hears_2 ++ dktX1_hears_3
def dkwX1_hears_1 : List UInt8 := [182, 0, 236, 78, 3, 54, 4, 21, 4, 28, 162, 0, 86, 3, 54, 5, 21, 5, 45, 180, 0, 102]
abbrev dktX1_hears_1 : List UInt8 := dkwX1_hears_1 ++ dktX1_hears_2
def dkwX1_hears_0 : List UInt8 := [42, 27, 182, 1, 158, 28, 3, 16, 20, 184, 0, 91, 184, 1, 161, 42, 180, 0, 66, 42, 180, 0, 10]
abbrev dktX1_hears_0 : List UInt8 := dkwX1_hears_0 ++ dktX1_hears_1
theorem dksX1_hears_0 : cX1_hears.data.toList.drop 0 = dktX1_hears_0 := by decide +kernel
theorem dksX1_hears_1 : cX1_hears.data.toList.drop 23 = dktX1_hears_1 := dk_seg dksX1_hears_0 23 rfl rfl
theorem dksX1_hears_2 : cX1_hears.data.toList.drop 45 = dktX1_hears_2 := dk_seg dksX1_hears_1 22 rfl rfl
theorem dksX1_hears_3 : cX1_hears.data.toList.drop 69 = dktX1_hears_3 := dk_seg dksX1_hears_2 24 rfl rfl
theorem dksX1_hears_4 : cX1_hears.data.toList.drop 93 = dktX1_hears_4 := dk_seg dksX1_hears_3 24 rfl rfl
theorem dksX1_hears_5 : cX1_hears.data.toList.drop 116 = dktX1_hears_5 := dk_seg dksX1_hears_4 23 rfl rfl
theorem dX1_hears_0 : decode cX1_hears 0 = .ok (.aload_n 0, 1) := dk_42 (dk_at dksX1_hears_0 0 rfl rfl)
theorem dX1_hears_1 : decode cX1_hears 1 = .ok (.iload_n 1, 1) := dk_27 (dk_at dksX1_hears_0 1 rfl rfl)
theorem dX1_hears_2 : decode cX1_hears 2 = .ok (.invokevirtual 414, 3) := dk_182 1 158 (dk_at dksX1_hears_0 2 rfl rfl)
theorem dX1_hears_5 : decode cX1_hears 5 = .ok (.iload_n 2, 1) := dk_28 (dk_at dksX1_hears_0 5 rfl rfl)
theorem dX1_hears_6 : decode cX1_hears 6 = .ok (.iconst 0, 1) := dk_3 (dk_at dksX1_hears_0 6 rfl rfl)
theorem dX1_hears_7 : decode cX1_hears 7 = .ok (.bipush 20, 2) := dk_16 20 (dk_at dksX1_hears_0 7 rfl rfl)
theorem dX1_hears_9 : decode cX1_hears 9 = .ok (.invokestatic 91, 3) := dk_184 0 91 (dk_at dksX1_hears_0 9 rfl rfl)
theorem dX1_hears_12 : decode cX1_hears 12 = .ok (.invokestatic 417, 3) := dk_184 1 161 (dk_at dksX1_hears_0 12 rfl rfl)
theorem dX1_hears_15 : decode cX1_hears 15 = .ok (.aload_n 0, 1) := dk_42 (dk_at dksX1_hears_0 15 rfl rfl)
theorem dX1_hears_16 : decode cX1_hears 16 = .ok (.getfield 66, 3) := dk_180 0 66 (dk_at dksX1_hears_0 16 rfl rfl)
theorem dX1_hears_19 : decode cX1_hears 19 = .ok (.aload_n 0, 1) := dk_42 (dk_at dksX1_hears_0 19 rfl rfl)
theorem dX1_hears_20 : decode cX1_hears 20 = .ok (.getfield 10, 3) := dk_180 0 10 (dk_at dksX1_hears_0 20 rfl rfl)
theorem dX1_hears_23 : decode cX1_hears 23 = .ok (.invokevirtual 236, 3) := dk_182 0 236 (dk_at dksX1_hears_1 0 rfl rfl)
theorem dX1_hears_26 : decode cX1_hears 26 = .ok (.astore_n 3, 1) := dk_78 (dk_at dksX1_hears_1 3 rfl rfl)
theorem dX1_hears_27 : decode cX1_hears 27 = .ok (.iconst 0, 1) := dk_3 (dk_at dksX1_hears_1 4 rfl rfl)
theorem dX1_hears_28 : decode cX1_hears 28 = .ok (.istore 4, 2) := dk_54 4 (dk_at dksX1_hears_1 5 rfl rfl)
theorem dX1_hears_30 : decode cX1_hears 30 = .ok (.iload 4, 2) := dk_21 4 (dk_at dksX1_hears_1 7 rfl rfl)
theorem dX1_hears_32 : decode cX1_hears 32 = .ok (.iload_n 2, 1) := dk_28 (dk_at dksX1_hears_1 9 rfl rfl)
theorem dX1_hears_33 : decode cX1_hears 33 = .ok (.if_icmp .ge 86, 3) := dk_162 0 86 (dk_at dksX1_hears_1 10 rfl rfl)
theorem dX1_hears_36 : decode cX1_hears 36 = .ok (.iconst 0, 1) := dk_3 (dk_at dksX1_hears_1 13 rfl rfl)
theorem dX1_hears_37 : decode cX1_hears 37 = .ok (.istore 5, 2) := dk_54 5 (dk_at dksX1_hears_1 14 rfl rfl)
theorem dX1_hears_39 : decode cX1_hears 39 = .ok (.iload 5, 2) := dk_21 5 (dk_at dksX1_hears_1 16 rfl rfl)
theorem dX1_hears_41 : decode cX1_hears 41 = .ok (.aload_n 3, 1) := dk_45 (dk_at dksX1_hears_1 18 rfl rfl)
theorem dX1_hears_42 : decode cX1_hears 42 = .ok (.getfield 102, 3) := dk_180 0 102 (dk_at dksX1_hears_1 19 rfl rfl)
theorem dX1_hears_45 : decode cX1_hears 45 = .ok (.if_icmp .ge 68, 3) := dk_162 0 68 (dk_at dksX1_hears_2 0 rfl rfl)
theorem dX1_hears_48 : decode cX1_hears 48 = .ok (.iload 5, 2) := dk_21 5 (dk_at dksX1_hears_2 3 rfl rfl)
theorem dX1_hears_50 : decode cX1_hears 50 = .ok (.iconst 1, 1) := dk_4 (dk_at dksX1_hears_2 5 rfl rfl)
theorem dX1_hears_51 : decode cX1_hears 51 = .ok (.iadd, 1) := dk_96 (dk_at dksX1_hears_2 6 rfl rfl)
theorem dX1_hears_52 : decode cX1_hears 52 = .ok (.istore 6, 2) := dk_54 6 (dk_at dksX1_hears_2 7 rfl rfl)
theorem dX1_hears_54 : decode cX1_hears 54 = .ok (.iload 6, 2) := dk_21 6 (dk_at dksX1_hears_2 9 rfl rfl)
theorem dX1_hears_56 : decode cX1_hears 56 = .ok (.aload_n 3, 1) := dk_45 (dk_at dksX1_hears_2 11 rfl rfl)
theorem dX1_hears_57 : decode cX1_hears 57 = .ok (.getfield 102, 3) := dk_180 0 102 (dk_at dksX1_hears_2 12 rfl rfl)
theorem dX1_hears_60 : decode cX1_hears 60 = .ok (.if_icmp .ge 47, 3) := dk_162 0 47 (dk_at dksX1_hears_2 15 rfl rfl)
theorem dX1_hears_63 : decode cX1_hears 63 = .ok (.aload_n 3, 1) := dk_45 (dk_at dksX1_hears_2 18 rfl rfl)
theorem dX1_hears_64 : decode cX1_hears 64 = .ok (.getfield 129, 3) := dk_180 0 129 (dk_at dksX1_hears_2 19 rfl rfl)
theorem dX1_hears_67 : decode cX1_hears 67 = .ok (.iload 5, 2) := dk_21 5 (dk_at dksX1_hears_2 22 rfl rfl)
theorem dX1_hears_69 : decode cX1_hears 69 = .ok (.iaload, 1) := dk_46 (dk_at dksX1_hears_3 0 rfl rfl)
theorem dX1_hears_70 : decode cX1_hears 70 = .ok (.iload 6, 2) := dk_21 6 (dk_at dksX1_hears_3 1 rfl rfl)
theorem dX1_hears_72 : decode cX1_hears 72 = .ok (.invokestatic 423, 3) := dk_184 1 167 (dk_at dksX1_hears_3 3 rfl rfl)
theorem dX1_hears_75 : decode cX1_hears 75 = .ok (.ifCond .eq 26, 3) := dk_153 0 26 (dk_at dksX1_hears_3 6 rfl rfl)
theorem dX1_hears_78 : decode cX1_hears 78 = .ok (.aload_n 3, 1) := dk_45 (dk_at dksX1_hears_3 9 rfl rfl)
theorem dX1_hears_79 : decode cX1_hears 79 = .ok (.getfield 129, 3) := dk_180 0 129 (dk_at dksX1_hears_3 10 rfl rfl)
theorem dX1_hears_82 : decode cX1_hears 82 = .ok (.iload 6, 2) := dk_21 6 (dk_at dksX1_hears_3 13 rfl rfl)
theorem dX1_hears_84 : decode cX1_hears 84 = .ok (.iaload, 1) := dk_46 (dk_at dksX1_hears_3 15 rfl rfl)
theorem dX1_hears_85 : decode cX1_hears 85 = .ok (.iload 5, 2) := dk_21 5 (dk_at dksX1_hears_3 16 rfl rfl)
theorem dX1_hears_87 : decode cX1_hears 87 = .ok (.invokestatic 423, 3) := dk_184 1 167 (dk_at dksX1_hears_3 18 rfl rfl)
theorem dX1_hears_90 : decode cX1_hears 90 = .ok (.ifCond .eq 11, 3) := dk_153 0 11 (dk_at dksX1_hears_3 21 rfl rfl)
theorem dX1_hears_93 : decode cX1_hears 93 = .ok (.aload_n 3, 1) := dk_45 (dk_at dksX1_hears_4 0 rfl rfl)
theorem dX1_hears_94 : decode cX1_hears 94 = .ok (.iload 5, 2) := dk_21 5 (dk_at dksX1_hears_4 1 rfl rfl)
theorem dX1_hears_96 : decode cX1_hears 96 = .ok (.iload 6, 2) := dk_21 6 (dk_at dksX1_hears_4 3 rfl rfl)
theorem dX1_hears_98 : decode cX1_hears 98 = .ok (.invokevirtual 476, 3) := dk_182 1 220 (dk_at dksX1_hears_4 5 rfl rfl)
theorem dX1_hears_101 : decode cX1_hears 101 = .ok (.iinc 6 1, 3) := dk_132 6 1 (dk_at dksX1_hears_4 8 rfl rfl)
theorem dX1_hears_104 : decode cX1_hears 104 = .ok (.goto (-50), 3) := dk_167 255 206 (dk_at dksX1_hears_4 11 rfl rfl)
theorem dX1_hears_107 : decode cX1_hears 107 = .ok (.iinc 5 1, 3) := dk_132 5 1 (dk_at dksX1_hears_4 14 rfl rfl)
theorem dX1_hears_110 : decode cX1_hears 110 = .ok (.goto (-71), 3) := dk_167 255 185 (dk_at dksX1_hears_4 17 rfl rfl)
theorem dX1_hears_113 : decode cX1_hears 113 = .ok (.iinc 4 1, 3) := dk_132 4 1 (dk_at dksX1_hears_4 20 rfl rfl)
theorem dX1_hears_116 : decode cX1_hears 116 = .ok (.goto (-86), 3) := dk_167 255 170 (dk_at dksX1_hears_5 0 rfl rfl)
theorem dX1_hears_119 : decode cX1_hears 119 = .ok (.aload_n 3, 1) := dk_45 (dk_at dksX1_hears_5 3 rfl rfl)
theorem dX1_hears_120 : decode cX1_hears 120 = .ok (.getfield 129, 3) := dk_180 0 129 (dk_at dksX1_hears_5 4 rfl rfl)
theorem dX1_hears_123 : decode cX1_hears 123 = .ok (.iload_n 1, 1) := dk_27 (dk_at dksX1_hears_5 7 rfl rfl)
theorem dX1_hears_124 : decode cX1_hears 124 = .ok (.iaload, 1) := dk_46 (dk_at dksX1_hears_5 8 rfl rfl)
theorem dX1_hears_125 : decode cX1_hears 125 = .ok (.ireturn, 1) := dk_172 (dk_at dksX1_hears_5 9 rfl rfl)
abbrev cX1_trial : ByteArray := prog_1_method_94_code
def yX1_trial : MethodName := ⟨RX1, "trial", "(I)I"⟩
def dkwX1_trial_1 : List UInt8 := [182, 2, 80, 172]
abbrev dktX1_trial_1 : List UInt8 := dkwX1_trial_1 ++ []
def dkwX1_trial_0 : List UInt8 := [27, 3, 16, 30, 184, 0, 91, 184, 1, 161, 42, 180, 0, 66, 42, 180, 0, 10, 182, 0, 236, 87, 42, 27]
abbrev dktX1_trial_0 : List UInt8 := dkwX1_trial_0 ++ dktX1_trial_1
theorem dksX1_trial_0 : cX1_trial.data.toList.drop 0 = dktX1_trial_0 := by decide +kernel
theorem dksX1_trial_1 : cX1_trial.data.toList.drop 24 = dktX1_trial_1 := dk_seg dksX1_trial_0 24 rfl rfl
theorem dX1_trial_0 : decode cX1_trial 0 = .ok (.iload_n 1, 1) := dk_27 (dk_at dksX1_trial_0 0 rfl rfl)
theorem dX1_trial_1 : decode cX1_trial 1 = .ok (.iconst 0, 1) := dk_3 (dk_at dksX1_trial_0 1 rfl rfl)
theorem dX1_trial_2 : decode cX1_trial 2 = .ok (.bipush 30, 2) := dk_16 30 (dk_at dksX1_trial_0 2 rfl rfl)
theorem dX1_trial_4 : decode cX1_trial 4 = .ok (.invokestatic 91, 3) := dk_184 0 91 (dk_at dksX1_trial_0 4 rfl rfl)
theorem dX1_trial_7 : decode cX1_trial 7 = .ok (.invokestatic 417, 3) := dk_184 1 161 (dk_at dksX1_trial_0 7 rfl rfl)
theorem dX1_trial_10 : decode cX1_trial 10 = .ok (.aload_n 0, 1) := dk_42 (dk_at dksX1_trial_0 10 rfl rfl)
theorem dX1_trial_11 : decode cX1_trial 11 = .ok (.getfield 66, 3) := dk_180 0 66 (dk_at dksX1_trial_0 11 rfl rfl)
theorem dX1_trial_14 : decode cX1_trial 14 = .ok (.aload_n 0, 1) := dk_42 (dk_at dksX1_trial_0 14 rfl rfl)
theorem dX1_trial_15 : decode cX1_trial 15 = .ok (.getfield 10, 3) := dk_180 0 10 (dk_at dksX1_trial_0 15 rfl rfl)
theorem dX1_trial_18 : decode cX1_trial 18 = .ok (.invokevirtual 236, 3) := dk_182 0 236 (dk_at dksX1_trial_0 18 rfl rfl)
theorem dX1_trial_21 : decode cX1_trial 21 = .ok (.pop, 1) := dk_87 (dk_at dksX1_trial_0 21 rfl rfl)
theorem dX1_trial_22 : decode cX1_trial 22 = .ok (.aload_n 0, 1) := dk_42 (dk_at dksX1_trial_0 22 rfl rfl)
theorem dX1_trial_23 : decode cX1_trial 23 = .ok (.iload_n 1, 1) := dk_27 (dk_at dksX1_trial_0 23 rfl rfl)
theorem dX1_trial_24 : decode cX1_trial 24 = .ok (.invokevirtual 592, 3) := dk_182 2 80 (dk_at dksX1_trial_1 0 rfl rfl)
theorem dX1_trial_27 : decode cX1_trial 27 = .ok (.ireturn, 1) := dk_172 (dk_at dksX1_trial_1 3 rfl rfl)
abbrev cX1_tries : ByteArray := prog_1_method_93_code
def yX1_tries : MethodName := ⟨RX1, "tries", "(I)I"⟩
def dkwX1_tries_1 : List UInt8 := [180, 0, 66, 184, 1, 252, 184, 1, 121, 172]
abbrev dktX1_tries_1 : List UInt8 := dkwX1_tries_1 ++ []
def dkwX1_tries_0 : List UInt8 := [3, 61, 28, 27, 162, 0, 18, 42, 42, 180, 0, 66, 182, 1, 249, 87, 132, 2, 1, 167, 255, 239, 42]
abbrev dktX1_tries_0 : List UInt8 := dkwX1_tries_0 ++ dktX1_tries_1
theorem dksX1_tries_0 : cX1_tries.data.toList.drop 0 = dktX1_tries_0 := by decide +kernel
theorem dksX1_tries_1 : cX1_tries.data.toList.drop 23 = dktX1_tries_1 := dk_seg dksX1_tries_0 23 rfl rfl
theorem dX1_tries_0 : decode cX1_tries 0 = .ok (.iconst 0, 1) := dk_3 (dk_at dksX1_tries_0 0 rfl rfl)
theorem dX1_tries_1 : decode cX1_tries 1 = .ok (.istore_n 2, 1) := dk_61 (dk_at dksX1_tries_0 1 rfl rfl)
theorem dX1_tries_2 : decode cX1_tries 2 = .ok (.iload_n 2, 1) := dk_28 (dk_at dksX1_tries_0 2 rfl rfl)
theorem dX1_tries_3 : decode cX1_tries 3 = .ok (.iload_n 1, 1) := dk_27 (dk_at dksX1_tries_0 3 rfl rfl)
theorem dX1_tries_4 : decode cX1_tries 4 = .ok (.if_icmp .ge 18, 3) := dk_162 0 18 (dk_at dksX1_tries_0 4 rfl rfl)
theorem dX1_tries_7 : decode cX1_tries 7 = .ok (.aload_n 0, 1) := dk_42 (dk_at dksX1_tries_0 7 rfl rfl)
theorem dX1_tries_8 : decode cX1_tries 8 = .ok (.aload_n 0, 1) := dk_42 (dk_at dksX1_tries_0 8 rfl rfl)
theorem dX1_tries_9 : decode cX1_tries 9 = .ok (.getfield 66, 3) := dk_180 0 66 (dk_at dksX1_tries_0 9 rfl rfl)
theorem dX1_tries_12 : decode cX1_tries 12 = .ok (.invokevirtual 505, 3) := dk_182 1 249 (dk_at dksX1_tries_0 12 rfl rfl)
theorem dX1_tries_15 : decode cX1_tries 15 = .ok (.pop, 1) := dk_87 (dk_at dksX1_tries_0 15 rfl rfl)
theorem dX1_tries_16 : decode cX1_tries 16 = .ok (.iinc 2 1, 3) := dk_132 2 1 (dk_at dksX1_tries_0 16 rfl rfl)
theorem dX1_tries_19 : decode cX1_tries 19 = .ok (.goto (-17), 3) := dk_167 255 239 (dk_at dksX1_tries_0 19 rfl rfl)
theorem dX1_tries_22 : decode cX1_tries 22 = .ok (.aload_n 0, 1) := dk_42 (dk_at dksX1_tries_0 22 rfl rfl)
theorem dX1_tries_23 : decode cX1_tries 23 = .ok (.getfield 66, 3) := dk_180 0 66 (dk_at dksX1_tries_1 0 rfl rfl)
theorem dX1_tries_26 : decode cX1_tries 26 = .ok (.invokestatic 508, 3) := dk_184 1 252 (dk_at dksX1_tries_1 3 rfl rfl)
theorem dX1_tries_29 : decode cX1_tries 29 = .ok (.invokestatic 377, 3) := dk_184 1 121 (dk_at dksX1_tries_1 6 rfl rfl)
theorem dX1_tries_32 : decode cX1_tries 32 = .ok (.ireturn, 1) := dk_172 (dk_at dksX1_tries_1 9 rfl rfl)
abbrev cX1_span : ByteArray := prog_1_method_95_code
def yX1_span : MethodName := ⟨RX1, "span", "(IZ)I"⟩
def dkwX1_span_3 : List UInt8 := [184, 2, 52, 167, 0, 9, 29, 21, 5, 184, 2, 86, 62, 132, 4, 1, 167, 255, 188, 29, 172]
abbrev dktX1_span_3 : List UInt8 := dkwX1_span_3 ++ []
def dkwX1_span_2 : List UInt8 := [182, 2, 80, 54, 5, 29, 2, 160, 0, 8, 21, 5, 167, 0, 22, 28, 153, 0, 12, 29, 21, 5]
abbrev dktX1_span_2 : List UInt8 := dkwX1_span_2 ++ dktX1_span_3
def dkwX1_span_1 : List UInt8 := [180, 0, 66, 42, 180, 0, 10, 182, 0, 236, 87, 42, 180, 0, 66, 21, 4, 181, 2, 83, 42, 27]
abbrev dktX1_span_1 : List UInt8 := dkwX1_span_1 ++ dktX1_span_2
def dkwX1_span_0 : List UInt8 := [27, 3, 16, 30, 184, 0, 91, 184, 1, 161, 2, 62, 4, 54, 4, 21, 4, 16, 6, 163, 0, 67, 42]
abbrev dktX1_span_0 : List UInt8 := dkwX1_span_0 ++ dktX1_span_1
theorem dksX1_span_0 : cX1_span.data.toList.drop 0 = dktX1_span_0 := by decide +kernel
theorem dksX1_span_1 : cX1_span.data.toList.drop 23 = dktX1_span_1 := dk_seg dksX1_span_0 23 rfl rfl
theorem dksX1_span_2 : cX1_span.data.toList.drop 45 = dktX1_span_2 := dk_seg dksX1_span_1 22 rfl rfl
theorem dksX1_span_3 : cX1_span.data.toList.drop 67 = dktX1_span_3 := dk_seg dksX1_span_2 22 rfl rfl
theorem dX1_span_0 : decode cX1_span 0 = .ok (.iload_n 1, 1) := dk_27 (dk_at dksX1_span_0 0 rfl rfl)
theorem dX1_span_1 : decode cX1_span 1 = .ok (.iconst 0, 1) := dk_3 (dk_at dksX1_span_0 1 rfl rfl)
theorem dX1_span_2 : decode cX1_span 2 = .ok (.bipush 30, 2) := dk_16 30 (dk_at dksX1_span_0 2 rfl rfl)
theorem dX1_span_4 : decode cX1_span 4 = .ok (.invokestatic 91, 3) := dk_184 0 91 (dk_at dksX1_span_0 4 rfl rfl)
theorem dX1_span_7 : decode cX1_span 7 = .ok (.invokestatic 417, 3) := dk_184 1 161 (dk_at dksX1_span_0 7 rfl rfl)
theorem dX1_span_10 : decode cX1_span 10 = .ok (.iconst (-1), 1) := dk_2 (dk_at dksX1_span_0 10 rfl rfl)
theorem dX1_span_11 : decode cX1_span 11 = .ok (.istore_n 3, 1) := dk_62 (dk_at dksX1_span_0 11 rfl rfl)
theorem dX1_span_12 : decode cX1_span 12 = .ok (.iconst 1, 1) := dk_4 (dk_at dksX1_span_0 12 rfl rfl)
theorem dX1_span_13 : decode cX1_span 13 = .ok (.istore 4, 2) := dk_54 4 (dk_at dksX1_span_0 13 rfl rfl)
theorem dX1_span_15 : decode cX1_span 15 = .ok (.iload 4, 2) := dk_21 4 (dk_at dksX1_span_0 15 rfl rfl)
theorem dX1_span_17 : decode cX1_span 17 = .ok (.bipush 6, 2) := dk_16 6 (dk_at dksX1_span_0 17 rfl rfl)
theorem dX1_span_19 : decode cX1_span 19 = .ok (.if_icmp .gt 67, 3) := dk_163 0 67 (dk_at dksX1_span_0 19 rfl rfl)
theorem dX1_span_22 : decode cX1_span 22 = .ok (.aload_n 0, 1) := dk_42 (dk_at dksX1_span_0 22 rfl rfl)
theorem dX1_span_23 : decode cX1_span 23 = .ok (.getfield 66, 3) := dk_180 0 66 (dk_at dksX1_span_1 0 rfl rfl)
theorem dX1_span_26 : decode cX1_span 26 = .ok (.aload_n 0, 1) := dk_42 (dk_at dksX1_span_1 3 rfl rfl)
theorem dX1_span_27 : decode cX1_span 27 = .ok (.getfield 10, 3) := dk_180 0 10 (dk_at dksX1_span_1 4 rfl rfl)
theorem dX1_span_30 : decode cX1_span 30 = .ok (.invokevirtual 236, 3) := dk_182 0 236 (dk_at dksX1_span_1 7 rfl rfl)
theorem dX1_span_33 : decode cX1_span 33 = .ok (.pop, 1) := dk_87 (dk_at dksX1_span_1 10 rfl rfl)
theorem dX1_span_34 : decode cX1_span 34 = .ok (.aload_n 0, 1) := dk_42 (dk_at dksX1_span_1 11 rfl rfl)
theorem dX1_span_35 : decode cX1_span 35 = .ok (.getfield 66, 3) := dk_180 0 66 (dk_at dksX1_span_1 12 rfl rfl)
theorem dX1_span_38 : decode cX1_span 38 = .ok (.iload 4, 2) := dk_21 4 (dk_at dksX1_span_1 15 rfl rfl)
theorem dX1_span_40 : decode cX1_span 40 = .ok (.putfield 595, 3) := dk_181 2 83 (dk_at dksX1_span_1 17 rfl rfl)
theorem dX1_span_43 : decode cX1_span 43 = .ok (.aload_n 0, 1) := dk_42 (dk_at dksX1_span_1 20 rfl rfl)
theorem dX1_span_44 : decode cX1_span 44 = .ok (.iload_n 1, 1) := dk_27 (dk_at dksX1_span_1 21 rfl rfl)
theorem dX1_span_45 : decode cX1_span 45 = .ok (.invokevirtual 592, 3) := dk_182 2 80 (dk_at dksX1_span_2 0 rfl rfl)
theorem dX1_span_48 : decode cX1_span 48 = .ok (.istore 5, 2) := dk_54 5 (dk_at dksX1_span_2 3 rfl rfl)
theorem dX1_span_50 : decode cX1_span 50 = .ok (.iload_n 3, 1) := dk_29 (dk_at dksX1_span_2 5 rfl rfl)
theorem dX1_span_51 : decode cX1_span 51 = .ok (.iconst (-1), 1) := dk_2 (dk_at dksX1_span_2 6 rfl rfl)
theorem dX1_span_52 : decode cX1_span 52 = .ok (.if_icmp .ne 8, 3) := dk_160 0 8 (dk_at dksX1_span_2 7 rfl rfl)
theorem dX1_span_55 : decode cX1_span 55 = .ok (.iload 5, 2) := dk_21 5 (dk_at dksX1_span_2 10 rfl rfl)
theorem dX1_span_57 : decode cX1_span 57 = .ok (.goto 22, 3) := dk_167 0 22 (dk_at dksX1_span_2 12 rfl rfl)
theorem dX1_span_60 : decode cX1_span 60 = .ok (.iload_n 2, 1) := dk_28 (dk_at dksX1_span_2 15 rfl rfl)
theorem dX1_span_61 : decode cX1_span 61 = .ok (.ifCond .eq 12, 3) := dk_153 0 12 (dk_at dksX1_span_2 16 rfl rfl)
theorem dX1_span_64 : decode cX1_span 64 = .ok (.iload_n 3, 1) := dk_29 (dk_at dksX1_span_2 19 rfl rfl)
theorem dX1_span_65 : decode cX1_span 65 = .ok (.iload 5, 2) := dk_21 5 (dk_at dksX1_span_2 20 rfl rfl)
theorem dX1_span_67 : decode cX1_span 67 = .ok (.invokestatic 564, 3) := dk_184 2 52 (dk_at dksX1_span_3 0 rfl rfl)
theorem dX1_span_70 : decode cX1_span 70 = .ok (.goto 9, 3) := dk_167 0 9 (dk_at dksX1_span_3 3 rfl rfl)
theorem dX1_span_73 : decode cX1_span 73 = .ok (.iload_n 3, 1) := dk_29 (dk_at dksX1_span_3 6 rfl rfl)
theorem dX1_span_74 : decode cX1_span 74 = .ok (.iload 5, 2) := dk_21 5 (dk_at dksX1_span_3 7 rfl rfl)
theorem dX1_span_76 : decode cX1_span 76 = .ok (.invokestatic 598, 3) := dk_184 2 86 (dk_at dksX1_span_3 9 rfl rfl)
theorem dX1_span_79 : decode cX1_span 79 = .ok (.istore_n 3, 1) := dk_62 (dk_at dksX1_span_3 12 rfl rfl)
theorem dX1_span_80 : decode cX1_span 80 = .ok (.iinc 4 1, 3) := dk_132 4 1 (dk_at dksX1_span_3 13 rfl rfl)
theorem dX1_span_83 : decode cX1_span 83 = .ok (.goto (-68), 3) := dk_167 255 188 (dk_at dksX1_span_3 16 rfl rfl)
theorem dX1_span_86 : decode cX1_span 86 = .ok (.iload_n 3, 1) := dk_29 (dk_at dksX1_span_3 19 rfl rfl)
theorem dX1_span_87 : decode cX1_span 87 = .ok (.ireturn, 1) := dk_172 (dk_at dksX1_span_3 20 rfl rfl)
abbrev cX1_led : ByteArray := prog_1_method_98_code
def yX1_led : MethodName := ⟨RX1, "led", "(IZ)I"⟩
def dkwX1_led_2 : List UInt8 := [182, 2, 92, 54, 4, 132, 5, 255, 167, 255, 223, 28, 153, 0, 8, 21, 4, 167, 0, 4, 29, 172]
abbrev dktX1_led_2 : List UInt8 := dkwX1_led_2 ++ []
def dkwX1_led_1 : List UInt8 := [155, 0, 34, 42, 21, 5, 27, 182, 2, 104, 154, 0, 6, 167, 0, 15, 132, 3, 1, 42, 21, 5, 4]
abbrev dktX1_led_1 : List UInt8 := dkwX1_led_1 ++ dktX1_led_2
def dkwX1_led_0 : List UInt8 := [42, 27, 182, 1, 158, 3, 62, 2, 54, 4, 42, 180, 0, 10, 180, 2, 101, 4, 100, 54, 5, 21, 5]
abbrev dktX1_led_0 : List UInt8 := dkwX1_led_0 ++ dktX1_led_1
theorem dksX1_led_0 : cX1_led.data.toList.drop 0 = dktX1_led_0 := by decide +kernel
theorem dksX1_led_1 : cX1_led.data.toList.drop 23 = dktX1_led_1 := dk_seg dksX1_led_0 23 rfl rfl
theorem dksX1_led_2 : cX1_led.data.toList.drop 46 = dktX1_led_2 := dk_seg dksX1_led_1 23 rfl rfl
theorem dX1_led_0 : decode cX1_led 0 = .ok (.aload_n 0, 1) := dk_42 (dk_at dksX1_led_0 0 rfl rfl)
theorem dX1_led_1 : decode cX1_led 1 = .ok (.iload_n 1, 1) := dk_27 (dk_at dksX1_led_0 1 rfl rfl)
theorem dX1_led_2 : decode cX1_led 2 = .ok (.invokevirtual 414, 3) := dk_182 1 158 (dk_at dksX1_led_0 2 rfl rfl)
theorem dX1_led_5 : decode cX1_led 5 = .ok (.iconst 0, 1) := dk_3 (dk_at dksX1_led_0 5 rfl rfl)
theorem dX1_led_6 : decode cX1_led 6 = .ok (.istore_n 3, 1) := dk_62 (dk_at dksX1_led_0 6 rfl rfl)
theorem dX1_led_7 : decode cX1_led 7 = .ok (.iconst (-1), 1) := dk_2 (dk_at dksX1_led_0 7 rfl rfl)
theorem dX1_led_8 : decode cX1_led 8 = .ok (.istore 4, 2) := dk_54 4 (dk_at dksX1_led_0 8 rfl rfl)
theorem dX1_led_10 : decode cX1_led 10 = .ok (.aload_n 0, 1) := dk_42 (dk_at dksX1_led_0 10 rfl rfl)
theorem dX1_led_11 : decode cX1_led 11 = .ok (.getfield 10, 3) := dk_180 0 10 (dk_at dksX1_led_0 11 rfl rfl)
theorem dX1_led_14 : decode cX1_led 14 = .ok (.getfield 613, 3) := dk_180 2 101 (dk_at dksX1_led_0 14 rfl rfl)
theorem dX1_led_17 : decode cX1_led 17 = .ok (.iconst 1, 1) := dk_4 (dk_at dksX1_led_0 17 rfl rfl)
theorem dX1_led_18 : decode cX1_led 18 = .ok (.isub, 1) := dk_100 (dk_at dksX1_led_0 18 rfl rfl)
theorem dX1_led_19 : decode cX1_led 19 = .ok (.istore 5, 2) := dk_54 5 (dk_at dksX1_led_0 19 rfl rfl)
theorem dX1_led_21 : decode cX1_led 21 = .ok (.iload 5, 2) := dk_21 5 (dk_at dksX1_led_0 21 rfl rfl)
theorem dX1_led_23 : decode cX1_led 23 = .ok (.ifCond .lt 34, 3) := dk_155 0 34 (dk_at dksX1_led_1 0 rfl rfl)
theorem dX1_led_26 : decode cX1_led 26 = .ok (.aload_n 0, 1) := dk_42 (dk_at dksX1_led_1 3 rfl rfl)
theorem dX1_led_27 : decode cX1_led 27 = .ok (.iload 5, 2) := dk_21 5 (dk_at dksX1_led_1 4 rfl rfl)
theorem dX1_led_29 : decode cX1_led 29 = .ok (.iload_n 1, 1) := dk_27 (dk_at dksX1_led_1 6 rfl rfl)
theorem dX1_led_30 : decode cX1_led 30 = .ok (.invokevirtual 616, 3) := dk_182 2 104 (dk_at dksX1_led_1 7 rfl rfl)
theorem dX1_led_33 : decode cX1_led 33 = .ok (.ifCond .ne 6, 3) := dk_154 0 6 (dk_at dksX1_led_1 10 rfl rfl)
theorem dX1_led_36 : decode cX1_led 36 = .ok (.goto 15, 3) := dk_167 0 15 (dk_at dksX1_led_1 13 rfl rfl)
theorem dX1_led_39 : decode cX1_led 39 = .ok (.iinc 3 1, 3) := dk_132 3 1 (dk_at dksX1_led_1 16 rfl rfl)
theorem dX1_led_42 : decode cX1_led 42 = .ok (.aload_n 0, 1) := dk_42 (dk_at dksX1_led_1 19 rfl rfl)
theorem dX1_led_43 : decode cX1_led 43 = .ok (.iload 5, 2) := dk_21 5 (dk_at dksX1_led_1 20 rfl rfl)
theorem dX1_led_45 : decode cX1_led 45 = .ok (.iconst 1, 1) := dk_4 (dk_at dksX1_led_1 22 rfl rfl)
theorem dX1_led_46 : decode cX1_led 46 = .ok (.invokevirtual 604, 3) := dk_182 2 92 (dk_at dksX1_led_2 0 rfl rfl)
theorem dX1_led_49 : decode cX1_led 49 = .ok (.istore 4, 2) := dk_54 4 (dk_at dksX1_led_2 3 rfl rfl)
theorem dX1_led_51 : decode cX1_led 51 = .ok (.iinc 5 (-1), 3) := dk_132 5 255 (dk_at dksX1_led_2 5 rfl rfl)
theorem dX1_led_54 : decode cX1_led 54 = .ok (.goto (-33), 3) := dk_167 255 223 (dk_at dksX1_led_2 8 rfl rfl)
theorem dX1_led_57 : decode cX1_led 57 = .ok (.iload_n 2, 1) := dk_28 (dk_at dksX1_led_2 11 rfl rfl)
theorem dX1_led_58 : decode cX1_led 58 = .ok (.ifCond .eq 8, 3) := dk_153 0 8 (dk_at dksX1_led_2 12 rfl rfl)
theorem dX1_led_61 : decode cX1_led 61 = .ok (.iload 4, 2) := dk_21 4 (dk_at dksX1_led_2 15 rfl rfl)
theorem dX1_led_63 : decode cX1_led 63 = .ok (.goto 4, 3) := dk_167 0 4 (dk_at dksX1_led_2 17 rfl rfl)
theorem dX1_led_66 : decode cX1_led 66 = .ok (.iload_n 3, 1) := dk_29 (dk_at dksX1_led_2 20 rfl rfl)
theorem dX1_led_67 : decode cX1_led 67 = .ok (.ireturn, 1) := dk_172 (dk_at dksX1_led_2 21 rfl rfl)
abbrev cX1_isTaken : ByteArray := prog_1_method_97_code
def yX1_isTaken : MethodName := ⟨RX1, "isTaken", "(II)Z"⟩
def dkwX1_isTaken_1 : List UInt8 := [159, 0, 13, 29, 178, 1, 210, 182, 2, 98, 160, 0, 7, 4, 167, 0, 4, 3, 172]
abbrev dktX1_isTaken_1 : List UInt8 := dkwX1_isTaken_1 ++ []
def dkwX1_isTaken_0 : List UInt8 := [42, 27, 7, 182, 2, 92, 62, 42, 27, 6, 182, 2, 92, 28, 160, 0, 27, 29, 178, 2, 95, 182, 2, 98]
abbrev dktX1_isTaken_0 : List UInt8 := dkwX1_isTaken_0 ++ dktX1_isTaken_1
theorem dksX1_isTaken_0 : cX1_isTaken.data.toList.drop 0 = dktX1_isTaken_0 := by decide +kernel
theorem dksX1_isTaken_1 : cX1_isTaken.data.toList.drop 24 = dktX1_isTaken_1 := dk_seg dksX1_isTaken_0 24 rfl rfl
theorem dX1_isTaken_0 : decode cX1_isTaken 0 = .ok (.aload_n 0, 1) := dk_42 (dk_at dksX1_isTaken_0 0 rfl rfl)
theorem dX1_isTaken_1 : decode cX1_isTaken 1 = .ok (.iload_n 1, 1) := dk_27 (dk_at dksX1_isTaken_0 1 rfl rfl)
theorem dX1_isTaken_2 : decode cX1_isTaken 2 = .ok (.iconst 4, 1) := dk_7 (dk_at dksX1_isTaken_0 2 rfl rfl)
theorem dX1_isTaken_3 : decode cX1_isTaken 3 = .ok (.invokevirtual 604, 3) := dk_182 2 92 (dk_at dksX1_isTaken_0 3 rfl rfl)
theorem dX1_isTaken_6 : decode cX1_isTaken 6 = .ok (.istore_n 3, 1) := dk_62 (dk_at dksX1_isTaken_0 6 rfl rfl)
theorem dX1_isTaken_7 : decode cX1_isTaken 7 = .ok (.aload_n 0, 1) := dk_42 (dk_at dksX1_isTaken_0 7 rfl rfl)
theorem dX1_isTaken_8 : decode cX1_isTaken 8 = .ok (.iload_n 1, 1) := dk_27 (dk_at dksX1_isTaken_0 8 rfl rfl)
theorem dX1_isTaken_9 : decode cX1_isTaken 9 = .ok (.iconst 3, 1) := dk_6 (dk_at dksX1_isTaken_0 9 rfl rfl)
theorem dX1_isTaken_10 : decode cX1_isTaken 10 = .ok (.invokevirtual 604, 3) := dk_182 2 92 (dk_at dksX1_isTaken_0 10 rfl rfl)
theorem dX1_isTaken_13 : decode cX1_isTaken 13 = .ok (.iload_n 2, 1) := dk_28 (dk_at dksX1_isTaken_0 13 rfl rfl)
theorem dX1_isTaken_14 : decode cX1_isTaken 14 = .ok (.if_icmp .ne 27, 3) := dk_160 0 27 (dk_at dksX1_isTaken_0 14 rfl rfl)
theorem dX1_isTaken_17 : decode cX1_isTaken 17 = .ok (.iload_n 3, 1) := dk_29 (dk_at dksX1_isTaken_0 17 rfl rfl)
theorem dX1_isTaken_18 : decode cX1_isTaken 18 = .ok (.getstatic 607, 3) := dk_178 2 95 (dk_at dksX1_isTaken_0 18 rfl rfl)
theorem dX1_isTaken_21 : decode cX1_isTaken 21 = .ok (.invokevirtual 610, 3) := dk_182 2 98 (dk_at dksX1_isTaken_0 21 rfl rfl)
theorem dX1_isTaken_24 : decode cX1_isTaken 24 = .ok (.if_icmp .eq 13, 3) := dk_159 0 13 (dk_at dksX1_isTaken_1 0 rfl rfl)
theorem dX1_isTaken_27 : decode cX1_isTaken 27 = .ok (.iload_n 3, 1) := dk_29 (dk_at dksX1_isTaken_1 3 rfl rfl)
theorem dX1_isTaken_28 : decode cX1_isTaken 28 = .ok (.getstatic 466, 3) := dk_178 1 210 (dk_at dksX1_isTaken_1 4 rfl rfl)
theorem dX1_isTaken_31 : decode cX1_isTaken 31 = .ok (.invokevirtual 610, 3) := dk_182 2 98 (dk_at dksX1_isTaken_1 7 rfl rfl)
theorem dX1_isTaken_34 : decode cX1_isTaken 34 = .ok (.if_icmp .ne 7, 3) := dk_160 0 7 (dk_at dksX1_isTaken_1 10 rfl rfl)
theorem dX1_isTaken_37 : decode cX1_isTaken 37 = .ok (.iconst 1, 1) := dk_4 (dk_at dksX1_isTaken_1 13 rfl rfl)
theorem dX1_isTaken_38 : decode cX1_isTaken 38 = .ok (.goto 4, 3) := dk_167 0 4 (dk_at dksX1_isTaken_1 14 rfl rfl)
theorem dX1_isTaken_41 : decode cX1_isTaken 41 = .ok (.iconst 0, 1) := dk_3 (dk_at dksX1_isTaken_1 17 rfl rfl)
theorem dX1_isTaken_42 : decode cX1_isTaken 42 = .ok (.ireturn, 1) := dk_172 (dk_at dksX1_isTaken_1 18 rfl rfl)
abbrev cX1_ofLog : ByteArray := prog_1_method_96_code
def yX1_ofLog : MethodName := ⟨RX1, "ofLog", "(II)I"⟩
def dkwX1_ofLog_0 : List UInt8 := [42, 180, 0, 10, 180, 2, 89, 8, 27, 104, 28, 96, 46, 172]
abbrev dktX1_ofLog_0 : List UInt8 := dkwX1_ofLog_0 ++ []
theorem dksX1_ofLog_0 : cX1_ofLog.data.toList.drop 0 = dktX1_ofLog_0 := by decide +kernel
theorem dX1_ofLog_0 : decode cX1_ofLog 0 = .ok (.aload_n 0, 1) := dk_42 (dk_at dksX1_ofLog_0 0 rfl rfl)
theorem dX1_ofLog_1 : decode cX1_ofLog 1 = .ok (.getfield 10, 3) := dk_180 0 10 (dk_at dksX1_ofLog_0 1 rfl rfl)
theorem dX1_ofLog_4 : decode cX1_ofLog 4 = .ok (.getfield 601, 3) := dk_180 2 89 (dk_at dksX1_ofLog_0 4 rfl rfl)
theorem dX1_ofLog_7 : decode cX1_ofLog 7 = .ok (.iconst 5, 1) := dk_8 (dk_at dksX1_ofLog_0 7 rfl rfl)
theorem dX1_ofLog_8 : decode cX1_ofLog 8 = .ok (.iload_n 1, 1) := dk_27 (dk_at dksX1_ofLog_0 8 rfl rfl)
theorem dX1_ofLog_9 : decode cX1_ofLog 9 = .ok (.imul, 1) := dk_104 (dk_at dksX1_ofLog_0 9 rfl rfl)
theorem dX1_ofLog_10 : decode cX1_ofLog 10 = .ok (.iload_n 2, 1) := dk_28 (dk_at dksX1_ofLog_0 10 rfl rfl)
theorem dX1_ofLog_11 : decode cX1_ofLog 11 = .ok (.iadd, 1) := dk_96 (dk_at dksX1_ofLog_0 11 rfl rfl)
theorem dX1_ofLog_12 : decode cX1_ofLog 12 = .ok (.iaload, 1) := dk_46 (dk_at dksX1_ofLog_0 12 rfl rfl)
theorem dX1_ofLog_13 : decode cX1_ofLog 13 = .ok (.ireturn, 1) := dk_172 (dk_at dksX1_ofLog_0 13 rfl rfl)
abbrev cX1_log : ByteArray := prog_1_method_99_code
def yX1_log : MethodName := ⟨RX1, "log", "(II)I"⟩
def dkwX1_log_1 : List UInt8 := [28, 182, 2, 92, 167, 0, 5, 16, 157, 172]
abbrev dktX1_log_1 : List UInt8 := dkwX1_log_1 ++ []
def dkwX1_log_0 : List UInt8 := [28, 7, 184, 1, 173, 27, 3, 42, 180, 0, 10, 180, 2, 101, 4, 100, 184, 0, 91, 153, 0, 12, 42, 27]
abbrev dktX1_log_0 : List UInt8 := dkwX1_log_0 ++ dktX1_log_1
theorem dksX1_log_0 : cX1_log.data.toList.drop 0 = dktX1_log_0 := by decide +kernel
theorem dksX1_log_1 : cX1_log.data.toList.drop 24 = dktX1_log_1 := dk_seg dksX1_log_0 24 rfl rfl
theorem dX1_log_0 : decode cX1_log 0 = .ok (.iload_n 2, 1) := dk_28 (dk_at dksX1_log_0 0 rfl rfl)
theorem dX1_log_1 : decode cX1_log 1 = .ok (.iconst 4, 1) := dk_7 (dk_at dksX1_log_0 1 rfl rfl)
theorem dX1_log_2 : decode cX1_log 2 = .ok (.invokestatic 429, 3) := dk_184 1 173 (dk_at dksX1_log_0 2 rfl rfl)
theorem dX1_log_5 : decode cX1_log 5 = .ok (.iload_n 1, 1) := dk_27 (dk_at dksX1_log_0 5 rfl rfl)
theorem dX1_log_6 : decode cX1_log 6 = .ok (.iconst 0, 1) := dk_3 (dk_at dksX1_log_0 6 rfl rfl)
theorem dX1_log_7 : decode cX1_log 7 = .ok (.aload_n 0, 1) := dk_42 (dk_at dksX1_log_0 7 rfl rfl)
theorem dX1_log_8 : decode cX1_log 8 = .ok (.getfield 10, 3) := dk_180 0 10 (dk_at dksX1_log_0 8 rfl rfl)
theorem dX1_log_11 : decode cX1_log 11 = .ok (.getfield 613, 3) := dk_180 2 101 (dk_at dksX1_log_0 11 rfl rfl)
theorem dX1_log_14 : decode cX1_log 14 = .ok (.iconst 1, 1) := dk_4 (dk_at dksX1_log_0 14 rfl rfl)
theorem dX1_log_15 : decode cX1_log 15 = .ok (.isub, 1) := dk_100 (dk_at dksX1_log_0 15 rfl rfl)
theorem dX1_log_16 : decode cX1_log 16 = .ok (.invokestatic 91, 3) := dk_184 0 91 (dk_at dksX1_log_0 16 rfl rfl)
theorem dX1_log_19 : decode cX1_log 19 = .ok (.ifCond .eq 12, 3) := dk_153 0 12 (dk_at dksX1_log_0 19 rfl rfl)
theorem dX1_log_22 : decode cX1_log 22 = .ok (.aload_n 0, 1) := dk_42 (dk_at dksX1_log_0 22 rfl rfl)
theorem dX1_log_23 : decode cX1_log 23 = .ok (.iload_n 1, 1) := dk_27 (dk_at dksX1_log_0 23 rfl rfl)
theorem dX1_log_24 : decode cX1_log 24 = .ok (.iload_n 2, 1) := dk_28 (dk_at dksX1_log_1 0 rfl rfl)
theorem dX1_log_25 : decode cX1_log 25 = .ok (.invokevirtual 604, 3) := dk_182 2 92 (dk_at dksX1_log_1 1 rfl rfl)
theorem dX1_log_28 : decode cX1_log 28 = .ok (.goto 5, 3) := dk_167 0 5 (dk_at dksX1_log_1 4 rfl rfl)
theorem dX1_log_31 : decode cX1_log 31 = .ok (.bipush (-99), 2) := dk_16 157 (dk_at dksX1_log_1 7 rfl rfl)
theorem dX1_log_33 : decode cX1_log 33 = .ok (.ireturn, 1) := dk_172 (dk_at dksX1_log_1 9 rfl rfl)
