/-! decode rows of X2 -/
set_option maxRecDepth 100000
abbrev cX2_init : ByteArray := prog_18_method_1_code
def yX2_init : MethodName := ⟨RX2, "<init>", "()V"⟩
def dkwX2_init_4 : List UInt8 := [17, 1, 44, 188, 10, 181, 0, 49, 42, 180, 0, 46, 2, 184, 0, 52, 177]
abbrev dktX2_init_4 : List UInt8 := dkwX2_init_4 ++ []
def dkwX2_init_3 : List UInt8 := [16, 100, 188, 10, 181, 0, 40, 42, 16, 10, 188, 10, 181, 0, 43, 42, 16, 12, 188, 10, 181, 0, 46, 42]
abbrev dktX2_init_3 : List UInt8 := dkwX2_init_3 ++ dktX2_init_4
def dkwX2_init_2 : List UInt8 := [16, 10, 188, 10, 181, 0, 31, 42, 16, 10, 188, 10, 181, 0, 34, 42, 16, 100, 188, 10, 181, 0, 37, 42]
abbrev dktX2_init_2 : List UInt8 := dkwX2_init_2 ++ dktX2_init_3
def dkwX2_init_1 : List UInt8 := [16, 10, 188, 10, 181, 0, 22, 42, 16, 10, 188, 10, 181, 0, 25, 42, 16, 10, 188, 10, 181, 0, 28, 42]
abbrev dktX2_init_1 : List UInt8 := dkwX2_init_1 ++ dktX2_init_2
def dkwX2_init_0 : List UInt8 := [42, 183, 0, 3, 42, 16, 6, 181, 0, 9, 42, 4, 181, 0, 15, 42, 16, 10, 188, 10, 181, 0, 18, 42]
abbrev dktX2_init_0 : List UInt8 := dkwX2_init_0 ++ dktX2_init_1
theorem dksX2_init_0 : cX2_init.data.toList.drop 0 = dktX2_init_0 := by decide +kernel
theorem dksX2_init_1 : cX2_init.data.toList.drop 24 = dktX2_init_1 := dk_seg dksX2_init_0 24 rfl rfl
theorem dksX2_init_2 : cX2_init.data.toList.drop 48 = dktX2_init_2 := dk_seg dksX2_init_1 24 rfl rfl
theorem dksX2_init_3 : cX2_init.data.toList.drop 72 = dktX2_init_3 := dk_seg dksX2_init_2 24 rfl rfl
theorem dksX2_init_4 : cX2_init.data.toList.drop 96 = dktX2_init_4 := dk_seg dksX2_init_3 24 rfl rfl
theorem dX2_init_0 : decode cX2_init 0 = .ok (.aload_n 0, 1) := dk_42 (dk_at dksX2_init_0 0 rfl rfl)
theorem dX2_init_1 : decode cX2_init 1 = .ok (.invokespecial 3, 3) := dk_183 0 3 (dk_at dksX2_init_0 1 rfl rfl)
theorem dX2_init_4 : decode cX2_init 4 = .ok (.aload_n 0, 1) := dk_42 (dk_at dksX2_init_0 4 rfl rfl)
theorem dX2_init_5 : decode cX2_init 5 = .ok (.bipush 6, 2) := dk_16 6 (dk_at dksX2_init_0 5 rfl rfl)
theorem dX2_init_7 : decode cX2_init 7 = .ok (.putfield 9, 3) := dk_181 0 9 (dk_at dksX2_init_0 7 rfl rfl)
theorem dX2_init_10 : decode cX2_init 10 = .ok (.aload_n 0, 1) := dk_42 (dk_at dksX2_init_0 10 rfl rfl)
theorem dX2_init_11 : decode cX2_init 11 = .ok (.iconst 1, 1) := dk_4 (dk_at dksX2_init_0 11 rfl rfl)
theorem dX2_init_12 : decode cX2_init 12 = .ok (.putfield 15, 3) := dk_181 0 15 (dk_at dksX2_init_0 12 rfl rfl)
theorem dX2_init_15 : decode cX2_init 15 = .ok (.aload_n 0, 1) := dk_42 (dk_at dksX2_init_0 15 rfl rfl)
theorem dX2_init_16 : decode cX2_init 16 = .ok (.bipush 10, 2) := dk_16 10 (dk_at dksX2_init_0 16 rfl rfl)
theorem dX2_init_18 : decode cX2_init 18 = .ok (.newarray .int, 2) := dk_188_10 (dk_at dksX2_init_0 18 rfl rfl)
theorem dX2_init_20 : decode cX2_init 20 = .ok (.putfield 18, 3) := dk_181 0 18 (dk_at dksX2_init_0 20 rfl rfl)
theorem dX2_init_23 : decode cX2_init 23 = .ok (.aload_n 0, 1) := dk_42 (dk_at dksX2_init_0 23 rfl rfl)
theorem dX2_init_24 : decode cX2_init 24 = .ok (.bipush 10, 2) := dk_16 10 (dk_at dksX2_init_1 0 rfl rfl)
theorem dX2_init_26 : decode cX2_init 26 = .ok (.newarray .int, 2) := dk_188_10 (dk_at dksX2_init_1 2 rfl rfl)
theorem dX2_init_28 : decode cX2_init 28 = .ok (.putfield 22, 3) := dk_181 0 22 (dk_at dksX2_init_1 4 rfl rfl)
theorem dX2_init_31 : decode cX2_init 31 = .ok (.aload_n 0, 1) := dk_42 (dk_at dksX2_init_1 7 rfl rfl)
theorem dX2_init_32 : decode cX2_init 32 = .ok (.bipush 10, 2) := dk_16 10 (dk_at dksX2_init_1 8 rfl rfl)
theorem dX2_init_34 : decode cX2_init 34 = .ok (.newarray .int, 2) := dk_188_10 (dk_at dksX2_init_1 10 rfl rfl)
theorem dX2_init_36 : decode cX2_init 36 = .ok (.putfield 25, 3) := dk_181 0 25 (dk_at dksX2_init_1 12 rfl rfl)
theorem dX2_init_39 : decode cX2_init 39 = .ok (.aload_n 0, 1) := dk_42 (dk_at dksX2_init_1 15 rfl rfl)
theorem dX2_init_40 : decode cX2_init 40 = .ok (.bipush 10, 2) := dk_16 10 (dk_at dksX2_init_1 16 rfl rfl)
theorem dX2_init_42 : decode cX2_init 42 = .ok (.newarray .int, 2) := dk_188_10 (dk_at dksX2_init_1 18 rfl rfl)
theorem dX2_init_44 : decode cX2_init 44 = .ok (.putfield 28, 3) := dk_181 0 28 (dk_at dksX2_init_1 20 rfl rfl)
theorem dX2_init_47 : decode cX2_init 47 = .ok (.aload_n 0, 1) := dk_42 (dk_at dksX2_init_1 23 rfl rfl)
theorem dX2_init_48 : decode cX2_init 48 = .ok (.bipush 10, 2) := dk_16 10 (dk_at dksX2_init_2 0 rfl rfl)
theorem dX2_init_50 : decode cX2_init 50 = .ok (.newarray .int, 2) := dk_188_10 (dk_at dksX2_init_2 2 rfl rfl)
theorem dX2_init_52 : decode cX2_init 52 = .ok (.putfield 31, 3) := dk_181 0 31 (dk_at dksX2_init_2 4 rfl rfl)
theorem dX2_init_55 : decode cX2_init 55 = .ok (.aload_n 0, 1) := dk_42 (dk_at dksX2_init_2 7 rfl rfl)
theorem dX2_init_56 : decode cX2_init 56 = .ok (.bipush 10, 2) := dk_16 10 (dk_at dksX2_init_2 8 rfl rfl)
theorem dX2_init_58 : decode cX2_init 58 = .ok (.newarray .int, 2) := dk_188_10 (dk_at dksX2_init_2 10 rfl rfl)
theorem dX2_init_60 : decode cX2_init 60 = .ok (.putfield 34, 3) := dk_181 0 34 (dk_at dksX2_init_2 12 rfl rfl)
theorem dX2_init_63 : decode cX2_init 63 = .ok (.aload_n 0, 1) := dk_42 (dk_at dksX2_init_2 15 rfl rfl)
theorem dX2_init_64 : decode cX2_init 64 = .ok (.bipush 100, 2) := dk_16 100 (dk_at dksX2_init_2 16 rfl rfl)
theorem dX2_init_66 : decode cX2_init 66 = .ok (.newarray .int, 2) := dk_188_10 (dk_at dksX2_init_2 18 rfl rfl)
theorem dX2_init_68 : decode cX2_init 68 = .ok (.putfield 37, 3) := dk_181 0 37 (dk_at dksX2_init_2 20 rfl rfl)
theorem dX2_init_71 : decode cX2_init 71 = .ok (.aload_n 0, 1) := dk_42 (dk_at dksX2_init_2 23 rfl rfl)
theorem dX2_init_72 : decode cX2_init 72 = .ok (.bipush 100, 2) := dk_16 100 (dk_at dksX2_init_3 0 rfl rfl)
theorem dX2_init_74 : decode cX2_init 74 = .ok (.newarray .int, 2) := dk_188_10 (dk_at dksX2_init_3 2 rfl rfl)
theorem dX2_init_76 : decode cX2_init 76 = .ok (.putfield 40, 3) := dk_181 0 40 (dk_at dksX2_init_3 4 rfl rfl)
theorem dX2_init_79 : decode cX2_init 79 = .ok (.aload_n 0, 1) := dk_42 (dk_at dksX2_init_3 7 rfl rfl)
theorem dX2_init_80 : decode cX2_init 80 = .ok (.bipush 10, 2) := dk_16 10 (dk_at dksX2_init_3 8 rfl rfl)
theorem dX2_init_82 : decode cX2_init 82 = .ok (.newarray .int, 2) := dk_188_10 (dk_at dksX2_init_3 10 rfl rfl)
theorem dX2_init_84 : decode cX2_init 84 = .ok (.putfield 43, 3) := dk_181 0 43 (dk_at dksX2_init_3 12 rfl rfl)
theorem dX2_init_87 : decode cX2_init 87 = .ok (.aload_n 0, 1) := dk_42 (dk_at dksX2_init_3 15 rfl rfl)
theorem dX2_init_88 : decode cX2_init 88 = .ok (.bipush 12, 2) := dk_16 12 (dk_at dksX2_init_3 16 rfl rfl)
theorem dX2_init_90 : decode cX2_init 90 = .ok (.newarray .int, 2) := dk_188_10 (dk_at dksX2_init_3 18 rfl rfl)
theorem dX2_init_92 : decode cX2_init 92 = .ok (.putfield 46, 3) := dk_181 0 46 (dk_at dksX2_init_3 20 rfl rfl)
theorem dX2_init_95 : decode cX2_init 95 = .ok (.aload_n 0, 1) := dk_42 (dk_at dksX2_init_3 23 rfl rfl)
theorem dX2_init_96 : decode cX2_init 96 = .ok (.sipush 300, 3) := dk_17 1 44 (dk_at dksX2_init_4 0 rfl rfl)
theorem dX2_init_99 : decode cX2_init 99 = .ok (.newarray .int, 2) := dk_188_10 (dk_at dksX2_init_4 3 rfl rfl)
theorem dX2_init_101 : decode cX2_init 101 = .ok (.putfield 49, 3) := dk_181 0 49 (dk_at dksX2_init_4 5 rfl rfl)
theorem dX2_init_104 : decode cX2_init 104 = .ok (.aload_n 0, 1) := dk_42 (dk_at dksX2_init_4 8 rfl rfl)
theorem dX2_init_105 : decode cX2_init 105 = .ok (.getfield 46, 3) := dk_180 0 46 (dk_at dksX2_init_4 9 rfl rfl)
theorem dX2_init_108 : decode cX2_init 108 = .ok (.iconst (-1), 1) := dk_2 (dk_at dksX2_init_4 12 rfl rfl)
theorem dX2_init_109 : decode cX2_init 109 = .ok (.invokestatic 52, 3) := dk_184 0 52 (dk_at dksX2_init_4 13 rfl rfl)
theorem dX2_init_112 : decode cX2_init 112 = .ok (.return_, 1) := dk_177 (dk_at dksX2_init_4 16 rfl rfl)
abbrev cX2_wearer : ByteArray := prog_18_method_6_code
def yX2_wearer : MethodName := ⟨RX2, "wearer", "(I)I"⟩
def dkwX2_wearer_1 : List UInt8 := [132, 2, 1, 167, 255, 233, 2, 172]
abbrev dktX2_wearer_1 : List UInt8 := dkwX2_wearer_1 ++ []
def dkwX2_wearer_0 : List UInt8 := [3, 61, 28, 42, 180, 0, 61, 162, 0, 21, 42, 180, 0, 25, 28, 46, 27, 160, 0, 5, 28, 172]
abbrev dktX2_wearer_0 : List UInt8 := dkwX2_wearer_0 ++ dktX2_wearer_1
theorem dksX2_wearer_0 : cX2_wearer.data.toList.drop 0 = dktX2_wearer_0 := by decide +kernel
theorem dksX2_wearer_1 : cX2_wearer.data.toList.drop 22 = dktX2_wearer_1 := dk_seg dksX2_wearer_0 22 rfl rfl
theorem dX2_wearer_0 : decode cX2_wearer 0 = .ok (.iconst 0, 1) := dk_3 (dk_at dksX2_wearer_0 0 rfl rfl)
theorem dX2_wearer_1 : decode cX2_wearer 1 = .ok (.istore_n 2, 1) := dk_61 (dk_at dksX2_wearer_0 1 rfl rfl)
theorem dX2_wearer_2 : decode cX2_wearer 2 = .ok (.iload_n 2, 1) := dk_28 (dk_at dksX2_wearer_0 2 rfl rfl)
theorem dX2_wearer_3 : decode cX2_wearer 3 = .ok (.aload_n 0, 1) := dk_42 (dk_at dksX2_wearer_0 3 rfl rfl)
theorem dX2_wearer_4 : decode cX2_wearer 4 = .ok (.getfield 61, 3) := dk_180 0 61 (dk_at dksX2_wearer_0 4 rfl rfl)
theorem dX2_wearer_7 : decode cX2_wearer 7 = .ok (.if_icmp .ge 21, 3) := dk_162 0 21 (dk_at dksX2_wearer_0 7 rfl rfl)
theorem dX2_wearer_10 : decode cX2_wearer 10 = .ok (.aload_n 0, 1) := dk_42 (dk_at dksX2_wearer_0 10 rfl rfl)
theorem dX2_wearer_11 : decode cX2_wearer 11 = .ok (.getfield 25, 3) := dk_180 0 25 (dk_at dksX2_wearer_0 11 rfl rfl)
theorem dX2_wearer_14 : decode cX2_wearer 14 = .ok (.iload_n 2, 1) := dk_28 (dk_at dksX2_wearer_0 14 rfl rfl)
theorem dX2_wearer_15 : decode cX2_wearer 15 = .ok (.iaload, 1) := dk_46 (dk_at dksX2_wearer_0 15 rfl rfl)
theorem dX2_wearer_16 : decode cX2_wearer 16 = .ok (.iload_n 1, 1) := dk_27 (dk_at dksX2_wearer_0 16 rfl rfl)
theorem dX2_wearer_17 : decode cX2_wearer 17 = .ok (.if_icmp .ne 5, 3) := dk_160 0 5 (dk_at dksX2_wearer_0 17 rfl rfl)
theorem dX2_wearer_20 : decode cX2_wearer 20 = .ok (.iload_n 2, 1) := dk_28 (dk_at dksX2_wearer_0 20 rfl rfl)
theorem dX2_wearer_21 : decode cX2_wearer 21 = .ok (.ireturn, 1) := dk_172 (dk_at dksX2_wearer_0 21 rfl rfl)
theorem dX2_wearer_22 : decode cX2_wearer 22 = .ok (.iinc 2 1, 3) := dk_132 2 1 (dk_at dksX2_wearer_1 0 rfl rfl)
theorem dX2_wearer_25 : decode cX2_wearer 25 = .ok (.goto (-23), 3) := dk_167 255 233 (dk_at dksX2_wearer_1 3 rfl rfl)
theorem dX2_wearer_28 : decode cX2_wearer 28 = .ok (.iconst (-1), 1) := dk_2 (dk_at dksX2_wearer_1 6 rfl rfl)
theorem dX2_wearer_29 : decode cX2_wearer 29 = .ok (.ireturn, 1) := dk_172 (dk_at dksX2_wearer_1 7 rfl rfl)
abbrev cX2_hookOf : ByteArray := prog_18_method_7_code
def yX2_hookOf : MethodName := ⟨RX2, "hookOf", "(I)I"⟩
def dkwX2_hookOf_1 : List UInt8 := [132, 2, 1, 167, 255, 233, 2, 172]
abbrev dktX2_hookOf_1 : List UInt8 := dkwX2_hookOf_1 ++ []
def dkwX2_hookOf_0 : List UInt8 := [3, 61, 28, 42, 180, 0, 9, 162, 0, 21, 42, 180, 0, 46, 28, 46, 27, 160, 0, 5, 28, 172]
abbrev dktX2_hookOf_0 : List UInt8 := dkwX2_hookOf_0 ++ dktX2_hookOf_1
theorem dksX2_hookOf_0 : cX2_hookOf.data.toList.drop 0 = dktX2_hookOf_0 := by decide +kernel
theorem dksX2_hookOf_1 : cX2_hookOf.data.toList.drop 22 = dktX2_hookOf_1 := dk_seg dksX2_hookOf_0 22 rfl rfl
theorem dX2_hookOf_0 : decode cX2_hookOf 0 = .ok (.iconst 0, 1) := dk_3 (dk_at dksX2_hookOf_0 0 rfl rfl)
theorem dX2_hookOf_1 : decode cX2_hookOf 1 = .ok (.istore_n 2, 1) := dk_61 (dk_at dksX2_hookOf_0 1 rfl rfl)
theorem dX2_hookOf_2 : decode cX2_hookOf 2 = .ok (.iload_n 2, 1) := dk_28 (dk_at dksX2_hookOf_0 2 rfl rfl)
theorem dX2_hookOf_3 : decode cX2_hookOf 3 = .ok (.aload_n 0, 1) := dk_42 (dk_at dksX2_hookOf_0 3 rfl rfl)
theorem dX2_hookOf_4 : decode cX2_hookOf 4 = .ok (.getfield 9, 3) := dk_180 0 9 (dk_at dksX2_hookOf_0 4 rfl rfl)
theorem dX2_hookOf_7 : decode cX2_hookOf 7 = .ok (.if_icmp .ge 21, 3) := dk_162 0 21 (dk_at dksX2_hookOf_0 7 rfl rfl)
theorem dX2_hookOf_10 : decode cX2_hookOf 10 = .ok (.aload_n 0, 1) := dk_42 (dk_at dksX2_hookOf_0 10 rfl rfl)
theorem dX2_hookOf_11 : decode cX2_hookOf 11 = .ok (.getfield 46, 3) := dk_180 0 46 (dk_at dksX2_hookOf_0 11 rfl rfl)
theorem dX2_hookOf_14 : decode cX2_hookOf 14 = .ok (.iload_n 2, 1) := dk_28 (dk_at dksX2_hookOf_0 14 rfl rfl)
theorem dX2_hookOf_15 : decode cX2_hookOf 15 = .ok (.iaload, 1) := dk_46 (dk_at dksX2_hookOf_0 15 rfl rfl)
theorem dX2_hookOf_16 : decode cX2_hookOf 16 = .ok (.iload_n 1, 1) := dk_27 (dk_at dksX2_hookOf_0 16 rfl rfl)
theorem dX2_hookOf_17 : decode cX2_hookOf 17 = .ok (.if_icmp .ne 5, 3) := dk_160 0 5 (dk_at dksX2_hookOf_0 17 rfl rfl)
theorem dX2_hookOf_20 : decode cX2_hookOf 20 = .ok (.iload_n 2, 1) := dk_28 (dk_at dksX2_hookOf_0 20 rfl rfl)
theorem dX2_hookOf_21 : decode cX2_hookOf 21 = .ok (.ireturn, 1) := dk_172 (dk_at dksX2_hookOf_0 21 rfl rfl)
theorem dX2_hookOf_22 : decode cX2_hookOf 22 = .ok (.iinc 2 1, 3) := dk_132 2 1 (dk_at dksX2_hookOf_1 0 rfl rfl)
theorem dX2_hookOf_25 : decode cX2_hookOf 25 = .ok (.goto (-23), 3) := dk_167 255 233 (dk_at dksX2_hookOf_1 3 rfl rfl)
theorem dX2_hookOf_28 : decode cX2_hookOf 28 = .ok (.iconst (-1), 1) := dk_2 (dk_at dksX2_hookOf_1 6 rfl rfl)
theorem dX2_hookOf_29 : decode cX2_hookOf 29 = .ok (.ireturn, 1) := dk_172 (dk_at dksX2_hookOf_1 7 rfl rfl)
abbrev cX2_isTicket : ByteArray := prog_18_method_10_code
def yX2_isTicket : MethodName := ⟨RX2, "isTicket", "(I)Z"⟩
def dkwX2_isTicket_1 : List UInt8 := [132, 2, 1, 167, 255, 233, 3, 172]
abbrev dktX2_isTicket_1 : List UInt8 := dkwX2_isTicket_1 ++ []
def dkwX2_isTicket_0 : List UInt8 := [3, 61, 28, 42, 180, 0, 61, 162, 0, 21, 42, 180, 0, 28, 28, 46, 27, 160, 0, 5, 4, 172]
abbrev dktX2_isTicket_0 : List UInt8 := dkwX2_isTicket_0 ++ dktX2_isTicket_1
theorem dksX2_isTicket_0 : cX2_isTicket.data.toList.drop 0 = dktX2_isTicket_0 := by decide +kernel
theorem dksX2_isTicket_1 : cX2_isTicket.data.toList.drop 22 = dktX2_isTicket_1 := dk_seg dksX2_isTicket_0 22 rfl rfl
theorem dX2_isTicket_0 : decode cX2_isTicket 0 = .ok (.iconst 0, 1) := dk_3 (dk_at dksX2_isTicket_0 0 rfl rfl)
theorem dX2_isTicket_1 : decode cX2_isTicket 1 = .ok (.istore_n 2, 1) := dk_61 (dk_at dksX2_isTicket_0 1 rfl rfl)
theorem dX2_isTicket_2 : decode cX2_isTicket 2 = .ok (.iload_n 2, 1) := dk_28 (dk_at dksX2_isTicket_0 2 rfl rfl)
theorem dX2_isTicket_3 : decode cX2_isTicket 3 = .ok (.aload_n 0, 1) := dk_42 (dk_at dksX2_isTicket_0 3 rfl rfl)
theorem dX2_isTicket_4 : decode cX2_isTicket 4 = .ok (.getfield 61, 3) := dk_180 0 61 (dk_at dksX2_isTicket_0 4 rfl rfl)
theorem dX2_isTicket_7 : decode cX2_isTicket 7 = .ok (.if_icmp .ge 21, 3) := dk_162 0 21 (dk_at dksX2_isTicket_0 7 rfl rfl)
theorem dX2_isTicket_10 : decode cX2_isTicket 10 = .ok (.aload_n 0, 1) := dk_42 (dk_at dksX2_isTicket_0 10 rfl rfl)
theorem dX2_isTicket_11 : decode cX2_isTicket 11 = .ok (.getfield 28, 3) := dk_180 0 28 (dk_at dksX2_isTicket_0 11 rfl rfl)
theorem dX2_isTicket_14 : decode cX2_isTicket 14 = .ok (.iload_n 2, 1) := dk_28 (dk_at dksX2_isTicket_0 14 rfl rfl)
theorem dX2_isTicket_15 : decode cX2_isTicket 15 = .ok (.iaload, 1) := dk_46 (dk_at dksX2_isTicket_0 15 rfl rfl)
theorem dX2_isTicket_16 : decode cX2_isTicket 16 = .ok (.iload_n 1, 1) := dk_27 (dk_at dksX2_isTicket_0 16 rfl rfl)
theorem dX2_isTicket_17 : decode cX2_isTicket 17 = .ok (.if_icmp .ne 5, 3) := dk_160 0 5 (dk_at dksX2_isTicket_0 17 rfl rfl)
theorem dX2_isTicket_20 : decode cX2_isTicket 20 = .ok (.iconst 1, 1) := dk_4 (dk_at dksX2_isTicket_0 20 rfl rfl)
theorem dX2_isTicket_21 : decode cX2_isTicket 21 = .ok (.ireturn, 1) := dk_172 (dk_at dksX2_isTicket_0 21 rfl rfl)
theorem dX2_isTicket_22 : decode cX2_isTicket 22 = .ok (.iinc 2 1, 3) := dk_132 2 1 (dk_at dksX2_isTicket_1 0 rfl rfl)
theorem dX2_isTicket_25 : decode cX2_isTicket 25 = .ok (.goto (-23), 3) := dk_167 255 233 (dk_at dksX2_isTicket_1 3 rfl rfl)
theorem dX2_isTicket_28 : decode cX2_isTicket 28 = .ok (.iconst 0, 1) := dk_3 (dk_at dksX2_isTicket_1 6 rfl rfl)
theorem dX2_isTicket_29 : decode cX2_isTicket 29 = .ok (.ireturn, 1) := dk_172 (dk_at dksX2_isTicket_1 7 rfl rfl)
abbrev cX2_withTickets : ByteArray := prog_18_method_11_code
def yX2_withTickets : MethodName := ⟨RX2, "withTickets", "()I"⟩
def dkwX2_withTickets_1 : List UInt8 := [28, 120, 167, 0, 4, 3, 128, 60, 132, 2, 1, 167, 255, 225, 27, 172]
abbrev dktX2_withTickets_1 : List UInt8 := dkwX2_withTickets_1 ++ []
def dkwX2_withTickets_0 : List UInt8 := [3, 60, 3, 61, 28, 42, 180, 0, 61, 162, 0, 29, 27, 42, 180, 0, 28, 28, 46, 2, 159, 0, 9, 4]
abbrev dktX2_withTickets_0 : List UInt8 := dkwX2_withTickets_0 ++ dktX2_withTickets_1
theorem dksX2_withTickets_0 : cX2_withTickets.data.toList.drop 0 = dktX2_withTickets_0 := by decide +kernel
theorem dksX2_withTickets_1 : cX2_withTickets.data.toList.drop 24 = dktX2_withTickets_1 := dk_seg dksX2_withTickets_0 24 rfl rfl
theorem dX2_withTickets_0 : decode cX2_withTickets 0 = .ok (.iconst 0, 1) := dk_3 (dk_at dksX2_withTickets_0 0 rfl rfl)
theorem dX2_withTickets_1 : decode cX2_withTickets 1 = .ok (.istore_n 1, 1) := dk_60 (dk_at dksX2_withTickets_0 1 rfl rfl)
theorem dX2_withTickets_2 : decode cX2_withTickets 2 = .ok (.iconst 0, 1) := dk_3 (dk_at dksX2_withTickets_0 2 rfl rfl)
theorem dX2_withTickets_3 : decode cX2_withTickets 3 = .ok (.istore_n 2, 1) := dk_61 (dk_at dksX2_withTickets_0 3 rfl rfl)
theorem dX2_withTickets_4 : decode cX2_withTickets 4 = .ok (.iload_n 2, 1) := dk_28 (dk_at dksX2_withTickets_0 4 rfl rfl)
theorem dX2_withTickets_5 : decode cX2_withTickets 5 = .ok (.aload_n 0, 1) := dk_42 (dk_at dksX2_withTickets_0 5 rfl rfl)
theorem dX2_withTickets_6 : decode cX2_withTickets 6 = .ok (.getfield 61, 3) := dk_180 0 61 (dk_at dksX2_withTickets_0 6 rfl rfl)
theorem dX2_withTickets_9 : decode cX2_withTickets 9 = .ok (.if_icmp .ge 29, 3) := dk_162 0 29 (dk_at dksX2_withTickets_0 9 rfl rfl)
theorem dX2_withTickets_12 : decode cX2_withTickets 12 = .ok (.iload_n 1, 1) := dk_27 (dk_at dksX2_withTickets_0 12 rfl rfl)
theorem dX2_withTickets_13 : decode cX2_withTickets 13 = .ok (.aload_n 0, 1) := dk_42 (dk_at dksX2_withTickets_0 13 rfl rfl)
theorem dX2_withTickets_14 : decode cX2_withTickets 14 = .ok (.getfield 28, 3) := dk_180 0 28 (dk_at dksX2_withTickets_0 14 rfl rfl)
theorem dX2_withTickets_17 : decode cX2_withTickets 17 = .ok (.iload_n 2, 1) := dk_28 (dk_at dksX2_withTickets_0 17 rfl rfl)
theorem dX2_withTickets_18 : decode cX2_withTickets 18 = .ok (.iaload, 1) := dk_46 (dk_at dksX2_withTickets_0 18 rfl rfl)
theorem dX2_withTickets_19 : decode cX2_withTickets 19 = .ok (.iconst (-1), 1) := dk_2 (dk_at dksX2_withTickets_0 19 rfl rfl)
theorem dX2_withTickets_20 : decode cX2_withTickets 20 = .ok (.if_icmp .eq 9, 3) := dk_159 0 9 (dk_at dksX2_withTickets_0 20 rfl rfl)
theorem dX2_withTickets_23 : decode cX2_withTickets 23 = .ok (.iconst 1, 1) := dk_4 (dk_at dksX2_withTickets_0 23 rfl rfl)
theorem dX2_withTickets_24 : decode cX2_withTickets 24 = .ok (.iload_n 2, 1) := dk_28 (dk_at dksX2_withTickets_1 0 rfl rfl)
theorem dX2_withTickets_25 : decode cX2_withTickets 25 = .ok (.ishl, 1) := dk_120 (dk_at dksX2_withTickets_1 1 rfl rfl)
theorem dX2_withTickets_26 : decode cX2_withTickets 26 = .ok (.goto 4, 3) := dk_167 0 4 (dk_at dksX2_withTickets_1 2 rfl rfl)
theorem dX2_withTickets_29 : decode cX2_withTickets 29 = .ok (.iconst 0, 1) := dk_3 (dk_at dksX2_withTickets_1 5 rfl rfl)
theorem dX2_withTickets_30 : decode cX2_withTickets 30 = .ok (.ior, 1) := dk_128 (dk_at dksX2_withTickets_1 6 rfl rfl)
theorem dX2_withTickets_31 : decode cX2_withTickets 31 = .ok (.istore_n 1, 1) := dk_60 (dk_at dksX2_withTickets_1 7 rfl rfl)
theorem dX2_withTickets_32 : decode cX2_withTickets 32 = .ok (.iinc 2 1, 3) := dk_132 2 1 (dk_at dksX2_withTickets_1 8 rfl rfl)
theorem dX2_withTickets_35 : decode cX2_withTickets 35 = .ok (.goto (-31), 3) := dk_167 255 225 (dk_at dksX2_withTickets_1 11 rfl rfl)
theorem dX2_withTickets_38 : decode cX2_withTickets 38 = .ok (.iload_n 1, 1) := dk_27 (dk_at dksX2_withTickets_1 14 rfl rfl)
theorem dX2_withTickets_39 : decode cX2_withTickets 39 = .ok (.ireturn, 1) := dk_172 (dk_at dksX2_withTickets_1 15 rfl rfl)
abbrev cX2_likens : ByteArray := prog_18_method_2_code
def yX2_likens : MethodName := ⟨RX2, "likens", "(LHungFaces$World;)LHungFaces$World;"⟩
def dkwX2_likens_8 : List UInt8 := [180, 0, 49, 42, 180, 0, 49, 184, 0, 80, 42, 176]
abbrev dktX2_likens_8 : List UInt8 := dkwX2_likens_8 ++ []
def dkwX2_likens_7 : List UInt8 := [180, 0, 43, 42, 180, 0, 43, 184, 0, 80, 43, 180, 0, 46, 42, 180, 0, 46, 184, 0, 80, 43]
abbrev dktX2_likens_7 : List UInt8 := dkwX2_likens_7 ++ dktX2_likens_8
def dkwX2_likens_6 : List UInt8 := [180, 0, 37, 42, 180, 0, 37, 184, 0, 80, 43, 180, 0, 40, 42, 180, 0, 40, 184, 0, 80, 43]
abbrev dktX2_likens_6 : List UInt8 := dkwX2_likens_6 ++ dktX2_likens_7
def dkwX2_likens_5 : List UInt8 := [180, 0, 31, 42, 180, 0, 31, 184, 0, 80, 43, 180, 0, 34, 42, 180, 0, 34, 184, 0, 80, 43]
abbrev dktX2_likens_5 : List UInt8 := dkwX2_likens_5 ++ dktX2_likens_6
def dkwX2_likens_4 : List UInt8 := [180, 0, 25, 42, 180, 0, 25, 184, 0, 80, 43, 180, 0, 28, 42, 180, 0, 28, 184, 0, 80, 43]
abbrev dktX2_likens_4 : List UInt8 := dkwX2_likens_4 ++ dktX2_likens_5
def dkwX2_likens_3 : List UInt8 := [43, 180, 0, 18, 42, 180, 0, 18, 184, 0, 80, 43, 180, 0, 22, 42, 180, 0, 22, 184, 0, 80, 43]
abbrev dktX2_likens_3 : List UInt8 := dkwX2_likens_3 ++ dktX2_likens_4
def dkwX2_likens_2 : List UInt8 := [42, 43, 180, 0, 73, 181, 0, 73, 42, 43, 180, 0, 15, 181, 0, 15, 42, 43, 180, 0, 76, 181, 0, 76]
abbrev dktX2_likens_2 : List UInt8 := dkwX2_likens_2 ++ dktX2_likens_3
def dkwX2_likens_1 : List UInt8 := [42, 43, 180, 0, 64, 181, 0, 64, 42, 43, 180, 0, 67, 181, 0, 67, 42, 43, 180, 0, 70, 181, 0, 70]
abbrev dktX2_likens_1 : List UInt8 := dkwX2_likens_1 ++ dktX2_likens_2
def dkwX2_likens_0 : List UInt8 := [42, 43, 180, 0, 58, 181, 0, 58, 42, 43, 180, 0, 61, 181, 0, 61, 42, 43, 180, 0, 9, 181, 0, 9]
abbrev dktX2_likens_0 : List UInt8 := dkwX2_likens_0 ++ dktX2_likens_1
theorem dksX2_likens_0 : cX2_likens.data.toList.drop 0 = dktX2_likens_0 := by decide +kernel
theorem dksX2_likens_1 : cX2_likens.data.toList.drop 24 = dktX2_likens_1 := dk_seg dksX2_likens_0 24 rfl rfl
theorem dksX2_likens_2 : cX2_likens.data.toList.drop 48 = dktX2_likens_2 := dk_seg dksX2_likens_1 24 rfl rfl
theorem dksX2_likens_3 : cX2_likens.data.toList.drop 72 = dktX2_likens_3 := dk_seg dksX2_likens_2 24 rfl rfl
theorem dksX2_likens_4 : cX2_likens.data.toList.drop 95 = dktX2_likens_4 := dk_seg dksX2_likens_3 23 rfl rfl
theorem dksX2_likens_5 : cX2_likens.data.toList.drop 117 = dktX2_likens_5 := dk_seg dksX2_likens_4 22 rfl rfl
theorem dksX2_likens_6 : cX2_likens.data.toList.drop 139 = dktX2_likens_6 := dk_seg dksX2_likens_5 22 rfl rfl
theorem dksX2_likens_7 : cX2_likens.data.toList.drop 161 = dktX2_likens_7 := dk_seg dksX2_likens_6 22 rfl rfl
theorem dksX2_likens_8 : cX2_likens.data.toList.drop 183 = dktX2_likens_8 := dk_seg dksX2_likens_7 22 rfl rfl
theorem dX2_likens_0 : decode cX2_likens 0 = .ok (.aload_n 0, 1) := dk_42 (dk_at dksX2_likens_0 0 rfl rfl)
theorem dX2_likens_1 : decode cX2_likens 1 = .ok (.aload_n 1, 1) := dk_43 (dk_at dksX2_likens_0 1 rfl rfl)
theorem dX2_likens_2 : decode cX2_likens 2 = .ok (.getfield 58, 3) := dk_180 0 58 (dk_at dksX2_likens_0 2 rfl rfl)
theorem dX2_likens_5 : decode cX2_likens 5 = .ok (.putfield 58, 3) := dk_181 0 58 (dk_at dksX2_likens_0 5 rfl rfl)
theorem dX2_likens_8 : decode cX2_likens 8 = .ok (.aload_n 0, 1) := dk_42 (dk_at dksX2_likens_0 8 rfl rfl)
theorem dX2_likens_9 : decode cX2_likens 9 = .ok (.aload_n 1, 1) := dk_43 (dk_at dksX2_likens_0 9 rfl rfl)
theorem dX2_likens_10 : decode cX2_likens 10 = .ok (.getfield 61, 3) := dk_180 0 61 (dk_at dksX2_likens_0 10 rfl rfl)
theorem dX2_likens_13 : decode cX2_likens 13 = .ok (.putfield 61, 3) := dk_181 0 61 (dk_at dksX2_likens_0 13 rfl rfl)
theorem dX2_likens_16 : decode cX2_likens 16 = .ok (.aload_n 0, 1) := dk_42 (dk_at dksX2_likens_0 16 rfl rfl)
theorem dX2_likens_17 : decode cX2_likens 17 = .ok (.aload_n 1, 1) := dk_43 (dk_at dksX2_likens_0 17 rfl rfl)
theorem dX2_likens_18 : decode cX2_likens 18 = .ok (.getfield 9, 3) := dk_180 0 9 (dk_at dksX2_likens_0 18 rfl rfl)
theorem dX2_likens_21 : decode cX2_likens 21 = .ok (.putfield 9, 3) := dk_181 0 9 (dk_at dksX2_likens_0 21 rfl rfl)
theorem dX2_likens_24 : decode cX2_likens 24 = .ok (.aload_n 0, 1) := dk_42 (dk_at dksX2_likens_1 0 rfl rfl)
theorem dX2_likens_25 : decode cX2_likens 25 = .ok (.aload_n 1, 1) := dk_43 (dk_at dksX2_likens_1 1 rfl rfl)
theorem dX2_likens_26 : decode cX2_likens 26 = .ok (.getfield 64, 3) := dk_180 0 64 (dk_at dksX2_likens_1 2 rfl rfl)
theorem dX2_likens_29 : decode cX2_likens 29 = .ok (.putfield 64, 3) := dk_181 0 64 (dk_at dksX2_likens_1 5 rfl rfl)
theorem dX2_likens_32 : decode cX2_likens 32 = .ok (.aload_n 0, 1) := dk_42 (dk_at dksX2_likens_1 8 rfl rfl)
theorem dX2_likens_33 : decode cX2_likens 33 = .ok (.aload_n 1, 1) := dk_43 (dk_at dksX2_likens_1 9 rfl rfl)
theorem dX2_likens_34 : decode cX2_likens 34 = .ok (.getfield 67, 3) := dk_180 0 67 (dk_at dksX2_likens_1 10 rfl rfl)
theorem dX2_likens_37 : decode cX2_likens 37 = .ok (.putfield 67, 3) := dk_181 0 67 (dk_at dksX2_likens_1 13 rfl rfl)
theorem dX2_likens_40 : decode cX2_likens 40 = .ok (.aload_n 0, 1) := dk_42 (dk_at dksX2_likens_1 16 rfl rfl)
theorem dX2_likens_41 : decode cX2_likens 41 = .ok (.aload_n 1, 1) := dk_43 (dk_at dksX2_likens_1 17 rfl rfl)
theorem dX2_likens_42 : decode cX2_likens 42 = .ok (.getfield 70, 3) := dk_180 0 70 (dk_at dksX2_likens_1 18 rfl rfl)
theorem dX2_likens_45 : decode cX2_likens 45 = .ok (.putfield 70, 3) := dk_181 0 70 (dk_at dksX2_likens_1 21 rfl rfl)
theorem dX2_likens_48 : decode cX2_likens 48 = .ok (.aload_n 0, 1) := dk_42 (dk_at dksX2_likens_2 0 rfl rfl)
theorem dX2_likens_49 : decode cX2_likens 49 = .ok (.aload_n 1, 1) := dk_43 (dk_at dksX2_likens_2 1 rfl rfl)
theorem dX2_likens_50 : decode cX2_likens 50 = .ok (.getfield 73, 3) := dk_180 0 73 (dk_at dksX2_likens_2 2 rfl rfl)
theorem dX2_likens_53 : decode cX2_likens 53 = .ok (.putfield 73, 3) := dk_181 0 73 (dk_at dksX2_likens_2 5 rfl rfl)
theorem dX2_likens_56 : decode cX2_likens 56 = .ok (.aload_n 0, 1) := dk_42 (dk_at dksX2_likens_2 8 rfl rfl)
theorem dX2_likens_57 : decode cX2_likens 57 = .ok (.aload_n 1, 1) := dk_43 (dk_at dksX2_likens_2 9 rfl rfl)
theorem dX2_likens_58 : decode cX2_likens 58 = .ok (.getfield 15, 3) := dk_180 0 15 (dk_at dksX2_likens_2 10 rfl rfl)
theorem dX2_likens_61 : decode cX2_likens 61 = .ok (.putfield 15, 3) := dk_181 0 15 (dk_at dksX2_likens_2 13 rfl rfl)
theorem dX2_likens_64 : decode cX2_likens 64 = .ok (.aload_n 0, 1) := dk_42 (dk_at dksX2_likens_2 16 rfl rfl)
theorem dX2_likens_65 : decode cX2_likens 65 = .ok (.aload_n 1, 1) := dk_43 (dk_at dksX2_likens_2 17 rfl rfl)
theorem dX2_likens_66 : decode cX2_likens 66 = .ok (.getfield 76, 3) := dk_180 0 76 (dk_at dksX2_likens_2 18 rfl rfl)
theorem dX2_likens_69 : decode cX2_likens 69 = .ok (.putfield 76, 3) := dk_181 0 76 (dk_at dksX2_likens_2 21 rfl rfl)
theorem dX2_likens_72 : decode cX2_likens 72 = .ok (.aload_n 1, 1) := dk_43 (dk_at dksX2_likens_3 0 rfl rfl)
theorem dX2_likens_73 : decode cX2_likens 73 = .ok (.getfield 18, 3) := dk_180 0 18 (dk_at dksX2_likens_3 1 rfl rfl)
theorem dX2_likens_76 : decode cX2_likens 76 = .ok (.aload_n 0, 1) := dk_42 (dk_at dksX2_likens_3 4 rfl rfl)
theorem dX2_likens_77 : decode cX2_likens 77 = .ok (.getfield 18, 3) := dk_180 0 18 (dk_at dksX2_likens_3 5 rfl rfl)
theorem dX2_likens_80 : decode cX2_likens 80 = .ok (.invokestatic 80, 3) := dk_184 0 80 (dk_at dksX2_likens_3 8 rfl rfl)
theorem dX2_likens_83 : decode cX2_likens 83 = .ok (.aload_n 1, 1) := dk_43 (dk_at dksX2_likens_3 11 rfl rfl)
theorem dX2_likens_84 : decode cX2_likens 84 = .ok (.getfield 22, 3) := dk_180 0 22 (dk_at dksX2_likens_3 12 rfl rfl)
theorem dX2_likens_87 : decode cX2_likens 87 = .ok (.aload_n 0, 1) := dk_42 (dk_at dksX2_likens_3 15 rfl rfl)
theorem dX2_likens_88 : decode cX2_likens 88 = .ok (.getfield 22, 3) := dk_180 0 22 (dk_at dksX2_likens_3 16 rfl rfl)
theorem dX2_likens_91 : decode cX2_likens 91 = .ok (.invokestatic 80, 3) := dk_184 0 80 (dk_at dksX2_likens_3 19 rfl rfl)
theorem dX2_likens_94 : decode cX2_likens 94 = .ok (.aload_n 1, 1) := dk_43 (dk_at dksX2_likens_3 22 rfl rfl)
theorem dX2_likens_95 : decode cX2_likens 95 = .ok (.getfield 25, 3) := dk_180 0 25 (dk_at dksX2_likens_4 0 rfl rfl)
theorem dX2_likens_98 : decode cX2_likens 98 = .ok (.aload_n 0, 1) := dk_42 (dk_at dksX2_likens_4 3 rfl rfl)
theorem dX2_likens_99 : decode cX2_likens 99 = .ok (.getfield 25, 3) := dk_180 0 25 (dk_at dksX2_likens_4 4 rfl rfl)
theorem dX2_likens_102 : decode cX2_likens 102 = .ok (.invokestatic 80, 3) := dk_184 0 80 (dk_at dksX2_likens_4 7 rfl rfl)
theorem dX2_likens_105 : decode cX2_likens 105 = .ok (.aload_n 1, 1) := dk_43 (dk_at dksX2_likens_4 10 rfl rfl)
theorem dX2_likens_106 : decode cX2_likens 106 = .ok (.getfield 28, 3) := dk_180 0 28 (dk_at dksX2_likens_4 11 rfl rfl)
theorem dX2_likens_109 : decode cX2_likens 109 = .ok (.aload_n 0, 1) := dk_42 (dk_at dksX2_likens_4 14 rfl rfl)
theorem dX2_likens_110 : decode cX2_likens 110 = .ok (.getfield 28, 3) := dk_180 0 28 (dk_at dksX2_likens_4 15 rfl rfl)
theorem dX2_likens_113 : decode cX2_likens 113 = .ok (.invokestatic 80, 3) := dk_184 0 80 (dk_at dksX2_likens_4 18 rfl rfl)
theorem dX2_likens_116 : decode cX2_likens 116 = .ok (.aload_n 1, 1) := dk_43 (dk_at dksX2_likens_4 21 rfl rfl)
theorem dX2_likens_117 : decode cX2_likens 117 = .ok (.getfield 31, 3) := dk_180 0 31 (dk_at dksX2_likens_5 0 rfl rfl)
theorem dX2_likens_120 : decode cX2_likens 120 = .ok (.aload_n 0, 1) := dk_42 (dk_at dksX2_likens_5 3 rfl rfl)
theorem dX2_likens_121 : decode cX2_likens 121 = .ok (.getfield 31, 3) := dk_180 0 31 (dk_at dksX2_likens_5 4 rfl rfl)
theorem dX2_likens_124 : decode cX2_likens 124 = .ok (.invokestatic 80, 3) := dk_184 0 80 (dk_at dksX2_likens_5 7 rfl rfl)
theorem dX2_likens_127 : decode cX2_likens 127 = .ok (.aload_n 1, 1) := dk_43 (dk_at dksX2_likens_5 10 rfl rfl)
theorem dX2_likens_128 : decode cX2_likens 128 = .ok (.getfield 34, 3) := dk_180 0 34 (dk_at dksX2_likens_5 11 rfl rfl)
theorem dX2_likens_131 : decode cX2_likens 131 = .ok (.aload_n 0, 1) := dk_42 (dk_at dksX2_likens_5 14 rfl rfl)
theorem dX2_likens_132 : decode cX2_likens 132 = .ok (.getfield 34, 3) := dk_180 0 34 (dk_at dksX2_likens_5 15 rfl rfl)
theorem dX2_likens_135 : decode cX2_likens 135 = .ok (.invokestatic 80, 3) := dk_184 0 80 (dk_at dksX2_likens_5 18 rfl rfl)
theorem dX2_likens_138 : decode cX2_likens 138 = .ok (.aload_n 1, 1) := dk_43 (dk_at dksX2_likens_5 21 rfl rfl)
theorem dX2_likens_139 : decode cX2_likens 139 = .ok (.getfield 37, 3) := dk_180 0 37 (dk_at dksX2_likens_6 0 rfl rfl)
theorem dX2_likens_142 : decode cX2_likens 142 = .ok (.aload_n 0, 1) := dk_42 (dk_at dksX2_likens_6 3 rfl rfl)
theorem dX2_likens_143 : decode cX2_likens 143 = .ok (.getfield 37, 3) := dk_180 0 37 (dk_at dksX2_likens_6 4 rfl rfl)
theorem dX2_likens_146 : decode cX2_likens 146 = .ok (.invokestatic 80, 3) := dk_184 0 80 (dk_at dksX2_likens_6 7 rfl rfl)
theorem dX2_likens_149 : decode cX2_likens 149 = .ok (.aload_n 1, 1) := dk_43 (dk_at dksX2_likens_6 10 rfl rfl)
theorem dX2_likens_150 : decode cX2_likens 150 = .ok (.getfield 40, 3) := dk_180 0 40 (dk_at dksX2_likens_6 11 rfl rfl)
theorem dX2_likens_153 : decode cX2_likens 153 = .ok (.aload_n 0, 1) := dk_42 (dk_at dksX2_likens_6 14 rfl rfl)
theorem dX2_likens_154 : decode cX2_likens 154 = .ok (.getfield 40, 3) := dk_180 0 40 (dk_at dksX2_likens_6 15 rfl rfl)
theorem dX2_likens_157 : decode cX2_likens 157 = .ok (.invokestatic 80, 3) := dk_184 0 80 (dk_at dksX2_likens_6 18 rfl rfl)
theorem dX2_likens_160 : decode cX2_likens 160 = .ok (.aload_n 1, 1) := dk_43 (dk_at dksX2_likens_6 21 rfl rfl)
theorem dX2_likens_161 : decode cX2_likens 161 = .ok (.getfield 43, 3) := dk_180 0 43 (dk_at dksX2_likens_7 0 rfl rfl)
theorem dX2_likens_164 : decode cX2_likens 164 = .ok (.aload_n 0, 1) := dk_42 (dk_at dksX2_likens_7 3 rfl rfl)
theorem dX2_likens_165 : decode cX2_likens 165 = .ok (.getfield 43, 3) := dk_180 0 43 (dk_at dksX2_likens_7 4 rfl rfl)
theorem dX2_likens_168 : decode cX2_likens 168 = .ok (.invokestatic 80, 3) := dk_184 0 80 (dk_at dksX2_likens_7 7 rfl rfl)
theorem dX2_likens_171 : decode cX2_likens 171 = .ok (.aload_n 1, 1) := dk_43 (dk_at dksX2_likens_7 10 rfl rfl)
theorem dX2_likens_172 : decode cX2_likens 172 = .ok (.getfield 46, 3) := dk_180 0 46 (dk_at dksX2_likens_7 11 rfl rfl)
theorem dX2_likens_175 : decode cX2_likens 175 = .ok (.aload_n 0, 1) := dk_42 (dk_at dksX2_likens_7 14 rfl rfl)
theorem dX2_likens_176 : decode cX2_likens 176 = .ok (.getfield 46, 3) := dk_180 0 46 (dk_at dksX2_likens_7 15 rfl rfl)
theorem dX2_likens_179 : decode cX2_likens 179 = .ok (.invokestatic 80, 3) := dk_184 0 80 (dk_at dksX2_likens_7 18 rfl rfl)
theorem dX2_likens_182 : decode cX2_likens 182 = .ok (.aload_n 1, 1) := dk_43 (dk_at dksX2_likens_7 21 rfl rfl)
theorem dX2_likens_183 : decode cX2_likens 183 = .ok (.getfield 49, 3) := dk_180 0 49 (dk_at dksX2_likens_8 0 rfl rfl)
theorem dX2_likens_186 : decode cX2_likens 186 = .ok (.aload_n 0, 1) := dk_42 (dk_at dksX2_likens_8 3 rfl rfl)
theorem dX2_likens_187 : decode cX2_likens 187 = .ok (.getfield 49, 3) := dk_180 0 49 (dk_at dksX2_likens_8 4 rfl rfl)
theorem dX2_likens_190 : decode cX2_likens 190 = .ok (.invokestatic 80, 3) := dk_184 0 80 (dk_at dksX2_likens_8 7 rfl rfl)
theorem dX2_likens_193 : decode cX2_likens 193 = .ok (.aload_n 0, 1) := dk_42 (dk_at dksX2_likens_8 10 rfl rfl)
theorem dX2_likens_194 : decode cX2_likens 194 = .ok (.areturn, 1) := dk_176 (dk_at dksX2_likens_8 11 rfl rfl)
abbrev cX2_row : ByteArray := prog_18_method_3_code
def yX2_row : MethodName := ⟨RX2, "row", "([I[I)V"⟩
def dkwX2_row_0 : List UInt8 := [42, 3, 43, 3, 43, 190, 184, 0, 84, 177]
abbrev dktX2_row_0 : List UInt8 := dkwX2_row_0 ++ []
theorem dksX2_row_0 : cX2_row.data.toList.drop 0 = dktX2_row_0 := by decide +kernel
theorem dX2_row_0 : decode cX2_row 0 = .ok (.aload_n 0, 1) := dk_42 (dk_at dksX2_row_0 0 rfl rfl)
theorem dX2_row_1 : decode cX2_row 1 = .ok (.iconst 0, 1) := dk_3 (dk_at dksX2_row_0 1 rfl rfl)
theorem dX2_row_2 : decode cX2_row 2 = .ok (.aload_n 1, 1) := dk_43 (dk_at dksX2_row_0 2 rfl rfl)
theorem dX2_row_3 : decode cX2_row 3 = .ok (.iconst 0, 1) := dk_3 (dk_at dksX2_row_0 3 rfl rfl)
theorem dX2_row_4 : decode cX2_row 4 = .ok (.aload_n 1, 1) := dk_43 (dk_at dksX2_row_0 4 rfl rfl)
theorem dX2_row_5 : decode cX2_row 5 = .ok (.arraylength, 1) := dk_190 (dk_at dksX2_row_0 5 rfl rfl)
theorem dX2_row_6 : decode cX2_row 6 = .ok (.invokestatic 84, 3) := dk_184 0 84 (dk_at dksX2_row_0 6 rfl rfl)
theorem dX2_row_9 : decode cX2_row 9 = .ok (.return_, 1) := dk_177 (dk_at dksX2_row_0 9 rfl rfl)
abbrev cX2_hung : ByteArray := prog_18_method_8_code
def yX2_hung : MethodName := ⟨RX2, "hung", "()I"⟩
def dkwX2_hung_1 : List UInt8 := [167, 0, 4, 3, 96, 60, 132, 2, 1, 167, 255, 227, 27, 172]
abbrev dktX2_hung_1 : List UInt8 := dkwX2_hung_1 ++ []
def dkwX2_hung_0 : List UInt8 := [3, 60, 3, 61, 28, 42, 180, 0, 9, 162, 0, 27, 27, 42, 180, 0, 46, 28, 46, 2, 159, 0, 7, 4]
abbrev dktX2_hung_0 : List UInt8 := dkwX2_hung_0 ++ dktX2_hung_1
theorem dksX2_hung_0 : cX2_hung.data.toList.drop 0 = dktX2_hung_0 := by decide +kernel
theorem dksX2_hung_1 : cX2_hung.data.toList.drop 24 = dktX2_hung_1 := dk_seg dksX2_hung_0 24 rfl rfl
theorem dX2_hung_0 : decode cX2_hung 0 = .ok (.iconst 0, 1) := dk_3 (dk_at dksX2_hung_0 0 rfl rfl)
theorem dX2_hung_1 : decode cX2_hung 1 = .ok (.istore_n 1, 1) := dk_60 (dk_at dksX2_hung_0 1 rfl rfl)
theorem dX2_hung_2 : decode cX2_hung 2 = .ok (.iconst 0, 1) := dk_3 (dk_at dksX2_hung_0 2 rfl rfl)
theorem dX2_hung_3 : decode cX2_hung 3 = .ok (.istore_n 2, 1) := dk_61 (dk_at dksX2_hung_0 3 rfl rfl)
theorem dX2_hung_4 : decode cX2_hung 4 = .ok (.iload_n 2, 1) := dk_28 (dk_at dksX2_hung_0 4 rfl rfl)
theorem dX2_hung_5 : decode cX2_hung 5 = .ok (.aload_n 0, 1) := dk_42 (dk_at dksX2_hung_0 5 rfl rfl)
theorem dX2_hung_6 : decode cX2_hung 6 = .ok (.getfield 9, 3) := dk_180 0 9 (dk_at dksX2_hung_0 6 rfl rfl)
theorem dX2_hung_9 : decode cX2_hung 9 = .ok (.if_icmp .ge 27, 3) := dk_162 0 27 (dk_at dksX2_hung_0 9 rfl rfl)
theorem dX2_hung_12 : decode cX2_hung 12 = .ok (.iload_n 1, 1) := dk_27 (dk_at dksX2_hung_0 12 rfl rfl)
theorem dX2_hung_13 : decode cX2_hung 13 = .ok (.aload_n 0, 1) := dk_42 (dk_at dksX2_hung_0 13 rfl rfl)
theorem dX2_hung_14 : decode cX2_hung 14 = .ok (.getfield 46, 3) := dk_180 0 46 (dk_at dksX2_hung_0 14 rfl rfl)
theorem dX2_hung_17 : decode cX2_hung 17 = .ok (.iload_n 2, 1) := dk_28 (dk_at dksX2_hung_0 17 rfl rfl)
theorem dX2_hung_18 : decode cX2_hung 18 = .ok (.iaload, 1) := dk_46 (dk_at dksX2_hung_0 18 rfl rfl)
theorem dX2_hung_19 : decode cX2_hung 19 = .ok (.iconst (-1), 1) := dk_2 (dk_at dksX2_hung_0 19 rfl rfl)
theorem dX2_hung_20 : decode cX2_hung 20 = .ok (.if_icmp .eq 7, 3) := dk_159 0 7 (dk_at dksX2_hung_0 20 rfl rfl)
theorem dX2_hung_23 : decode cX2_hung 23 = .ok (.iconst 1, 1) := dk_4 (dk_at dksX2_hung_0 23 rfl rfl)
theorem dX2_hung_24 : decode cX2_hung 24 = .ok (.goto 4, 3) := dk_167 0 4 (dk_at dksX2_hung_1 0 rfl rfl)
theorem dX2_hung_27 : decode cX2_hung 27 = .ok (.iconst 0, 1) := dk_3 (dk_at dksX2_hung_1 3 rfl rfl)
theorem dX2_hung_28 : decode cX2_hung 28 = .ok (.iadd, 1) := dk_96 (dk_at dksX2_hung_1 4 rfl rfl)
theorem dX2_hung_29 : decode cX2_hung 29 = .ok (.istore_n 1, 1) := dk_60 (dk_at dksX2_hung_1 5 rfl rfl)
theorem dX2_hung_30 : decode cX2_hung 30 = .ok (.iinc 2 1, 3) := dk_132 2 1 (dk_at dksX2_hung_1 6 rfl rfl)
theorem dX2_hung_33 : decode cX2_hung 33 = .ok (.goto (-29), 3) := dk_167 255 227 (dk_at dksX2_hung_1 9 rfl rfl)
theorem dX2_hung_36 : decode cX2_hung 36 = .ok (.iload_n 1, 1) := dk_27 (dk_at dksX2_hung_1 12 rfl rfl)
theorem dX2_hung_37 : decode cX2_hung 37 = .ok (.ireturn, 1) := dk_172 (dk_at dksX2_hung_1 13 rfl rfl)
abbrev cX2_fillsWishes : ByteArray := prog_18_method_19_code
def yX2_fillsWishes : MethodName := ⟨RX2, "fillsWishes", "(I)V"⟩
def dkwX2_fillsWishes_2 : List UInt8 := [167, 255, 218, 177]
abbrev dktX2_fillsWishes_2 : List UInt8 := dkwX2_fillsWishes_2 ++ []
def dkwX2_fillsWishes_1 : List UInt8 := [153, 0, 6, 167, 0, 18, 42, 180, 0, 40, 16, 10, 27, 104, 28, 96, 29, 79, 132, 2, 1, 132, 3, 1]
abbrev dktX2_fillsWishes_1 : List UInt8 := dkwX2_fillsWishes_1 ++ dktX2_fillsWishes_2
def dkwX2_fillsWishes_0 : List UInt8 := [42, 180, 0, 43, 27, 46, 61, 3, 62, 29, 42, 180, 0, 61, 162, 0, 36, 42, 27, 29, 182, 0, 124]
abbrev dktX2_fillsWishes_0 : List UInt8 := dkwX2_fillsWishes_0 ++ dktX2_fillsWishes_1
theorem dksX2_fillsWishes_0 : cX2_fillsWishes.data.toList.drop 0 = dktX2_fillsWishes_0 := by decide +kernel
theorem dksX2_fillsWishes_1 : cX2_fillsWishes.data.toList.drop 23 = dktX2_fillsWishes_1 := dk_seg dksX2_fillsWishes_0 23 rfl rfl
theorem dksX2_fillsWishes_2 : cX2_fillsWishes.data.toList.drop 47 = dktX2_fillsWishes_2 := dk_seg dksX2_fillsWishes_1 24 rfl rfl
theorem dX2_fillsWishes_0 : decode cX2_fillsWishes 0 = .ok (.aload_n 0, 1) := dk_42 (dk_at dksX2_fillsWishes_0 0 rfl rfl)
theorem dX2_fillsWishes_1 : decode cX2_fillsWishes 1 = .ok (.getfield 43, 3) := dk_180 0 43 (dk_at dksX2_fillsWishes_0 1 rfl rfl)
theorem dX2_fillsWishes_4 : decode cX2_fillsWishes 4 = .ok (.iload_n 1, 1) := dk_27 (dk_at dksX2_fillsWishes_0 4 rfl rfl)
theorem dX2_fillsWishes_5 : decode cX2_fillsWishes 5 = .ok (.iaload, 1) := dk_46 (dk_at dksX2_fillsWishes_0 5 rfl rfl)
theorem dX2_fillsWishes_6 : decode cX2_fillsWishes 6 = .ok (.istore_n 2, 1) := dk_61 (dk_at dksX2_fillsWishes_0 6 rfl rfl)
theorem dX2_fillsWishes_7 : decode cX2_fillsWishes 7 = .ok (.iconst 0, 1) := dk_3 (dk_at dksX2_fillsWishes_0 7 rfl rfl)
theorem dX2_fillsWishes_8 : decode cX2_fillsWishes 8 = .ok (.istore_n 3, 1) := dk_62 (dk_at dksX2_fillsWishes_0 8 rfl rfl)
theorem dX2_fillsWishes_9 : decode cX2_fillsWishes 9 = .ok (.iload_n 3, 1) := dk_29 (dk_at dksX2_fillsWishes_0 9 rfl rfl)
theorem dX2_fillsWishes_10 : decode cX2_fillsWishes 10 = .ok (.aload_n 0, 1) := dk_42 (dk_at dksX2_fillsWishes_0 10 rfl rfl)
theorem dX2_fillsWishes_11 : decode cX2_fillsWishes 11 = .ok (.getfield 61, 3) := dk_180 0 61 (dk_at dksX2_fillsWishes_0 11 rfl rfl)
theorem dX2_fillsWishes_14 : decode cX2_fillsWishes 14 = .ok (.if_icmp .ge 36, 3) := dk_162 0 36 (dk_at dksX2_fillsWishes_0 14 rfl rfl)
theorem dX2_fillsWishes_17 : decode cX2_fillsWishes 17 = .ok (.aload_n 0, 1) := dk_42 (dk_at dksX2_fillsWishes_0 17 rfl rfl)
theorem dX2_fillsWishes_18 : decode cX2_fillsWishes 18 = .ok (.iload_n 1, 1) := dk_27 (dk_at dksX2_fillsWishes_0 18 rfl rfl)
theorem dX2_fillsWishes_19 : decode cX2_fillsWishes 19 = .ok (.iload_n 3, 1) := dk_29 (dk_at dksX2_fillsWishes_0 19 rfl rfl)
theorem dX2_fillsWishes_20 : decode cX2_fillsWishes 20 = .ok (.invokevirtual 124, 3) := dk_182 0 124 (dk_at dksX2_fillsWishes_0 20 rfl rfl)
theorem dX2_fillsWishes_23 : decode cX2_fillsWishes 23 = .ok (.ifCond .eq 6, 3) := dk_153 0 6 (dk_at dksX2_fillsWishes_1 0 rfl rfl)
theorem dX2_fillsWishes_26 : decode cX2_fillsWishes 26 = .ok (.goto 18, 3) := dk_167 0 18 (dk_at dksX2_fillsWishes_1 3 rfl rfl)
theorem dX2_fillsWishes_29 : decode cX2_fillsWishes 29 = .ok (.aload_n 0, 1) := dk_42 (dk_at dksX2_fillsWishes_1 6 rfl rfl)
theorem dX2_fillsWishes_30 : decode cX2_fillsWishes 30 = .ok (.getfield 40, 3) := dk_180 0 40 (dk_at dksX2_fillsWishes_1 7 rfl rfl)
theorem dX2_fillsWishes_33 : decode cX2_fillsWishes 33 = .ok (.bipush 10, 2) := dk_16 10 (dk_at dksX2_fillsWishes_1 10 rfl rfl)
theorem dX2_fillsWishes_35 : decode cX2_fillsWishes 35 = .ok (.iload_n 1, 1) := dk_27 (dk_at dksX2_fillsWishes_1 12 rfl rfl)
theorem dX2_fillsWishes_36 : decode cX2_fillsWishes 36 = .ok (.imul, 1) := dk_104 (dk_at dksX2_fillsWishes_1 13 rfl rfl)
theorem dX2_fillsWishes_37 : decode cX2_fillsWishes 37 = .ok (.iload_n 2, 1) := dk_28 (dk_at dksX2_fillsWishes_1 14 rfl rfl)
theorem dX2_fillsWishes_38 : decode cX2_fillsWishes 38 = .ok (.iadd, 1) := dk_96 (dk_at dksX2_fillsWishes_1 15 rfl rfl)
theorem dX2_fillsWishes_39 : decode cX2_fillsWishes 39 = .ok (.iload_n 3, 1) := dk_29 (dk_at dksX2_fillsWishes_1 16 rfl rfl)
theorem dX2_fillsWishes_40 : decode cX2_fillsWishes 40 = .ok (.iastore, 1) := dk_79 (dk_at dksX2_fillsWishes_1 17 rfl rfl)
theorem dX2_fillsWishes_41 : decode cX2_fillsWishes 41 = .ok (.iinc 2 1, 3) := dk_132 2 1 (dk_at dksX2_fillsWishes_1 18 rfl rfl)
theorem dX2_fillsWishes_44 : decode cX2_fillsWishes 44 = .ok (.iinc 3 1, 3) := dk_132 3 1 (dk_at dksX2_fillsWishes_1 21 rfl rfl)
theorem dX2_fillsWishes_47 : decode cX2_fillsWishes 47 = .ok (.goto (-38), 3) := dk_167 255 218 (dk_at dksX2_fillsWishes_2 0 rfl rfl)
theorem dX2_fillsWishes_50 : decode cX2_fillsWishes 50 = .ok (.return_, 1) := dk_177 (dk_at dksX2_fillsWishes_2 3 rfl rfl)
abbrev cX2_isTold : ByteArray := prog_18_method_20_code
def yX2_isTold : MethodName := ⟨RX2, "isTold", "(II)Z"⟩
def dkwX2_isTold_1 : List UInt8 := [160, 0, 5, 4, 172, 132, 3, 1, 167, 255, 226, 3, 172]
abbrev dktX2_isTold_1 : List UInt8 := dkwX2_isTold_1 ++ []
def dkwX2_isTold_0 : List UInt8 := [3, 62, 29, 42, 180, 0, 43, 27, 46, 162, 0, 26, 42, 180, 0, 40, 16, 10, 27, 104, 29, 96, 46, 28]
abbrev dktX2_isTold_0 : List UInt8 := dkwX2_isTold_0 ++ dktX2_isTold_1
theorem dksX2_isTold_0 : cX2_isTold.data.toList.drop 0 = dktX2_isTold_0 := by decide +kernel
theorem dksX2_isTold_1 : cX2_isTold.data.toList.drop 24 = dktX2_isTold_1 := dk_seg dksX2_isTold_0 24 rfl rfl
theorem dX2_isTold_0 : decode cX2_isTold 0 = .ok (.iconst 0, 1) := dk_3 (dk_at dksX2_isTold_0 0 rfl rfl)
theorem dX2_isTold_1 : decode cX2_isTold 1 = .ok (.istore_n 3, 1) := dk_62 (dk_at dksX2_isTold_0 1 rfl rfl)
theorem dX2_isTold_2 : decode cX2_isTold 2 = .ok (.iload_n 3, 1) := dk_29 (dk_at dksX2_isTold_0 2 rfl rfl)
theorem dX2_isTold_3 : decode cX2_isTold 3 = .ok (.aload_n 0, 1) := dk_42 (dk_at dksX2_isTold_0 3 rfl rfl)
theorem dX2_isTold_4 : decode cX2_isTold 4 = .ok (.getfield 43, 3) := dk_180 0 43 (dk_at dksX2_isTold_0 4 rfl rfl)
theorem dX2_isTold_7 : decode cX2_isTold 7 = .ok (.iload_n 1, 1) := dk_27 (dk_at dksX2_isTold_0 7 rfl rfl)
theorem dX2_isTold_8 : decode cX2_isTold 8 = .ok (.iaload, 1) := dk_46 (dk_at dksX2_isTold_0 8 rfl rfl)
theorem dX2_isTold_9 : decode cX2_isTold 9 = .ok (.if_icmp .ge 26, 3) := dk_162 0 26 (dk_at dksX2_isTold_0 9 rfl rfl)
theorem dX2_isTold_12 : decode cX2_isTold 12 = .ok (.aload_n 0, 1) := dk_42 (dk_at dksX2_isTold_0 12 rfl rfl)
theorem dX2_isTold_13 : decode cX2_isTold 13 = .ok (.getfield 40, 3) := dk_180 0 40 (dk_at dksX2_isTold_0 13 rfl rfl)
theorem dX2_isTold_16 : decode cX2_isTold 16 = .ok (.bipush 10, 2) := dk_16 10 (dk_at dksX2_isTold_0 16 rfl rfl)
theorem dX2_isTold_18 : decode cX2_isTold 18 = .ok (.iload_n 1, 1) := dk_27 (dk_at dksX2_isTold_0 18 rfl rfl)
theorem dX2_isTold_19 : decode cX2_isTold 19 = .ok (.imul, 1) := dk_104 (dk_at dksX2_isTold_0 19 rfl rfl)
theorem dX2_isTold_20 : decode cX2_isTold 20 = .ok (.iload_n 3, 1) := dk_29 (dk_at dksX2_isTold_0 20 rfl rfl)
theorem dX2_isTold_21 : decode cX2_isTold 21 = .ok (.iadd, 1) := dk_96 (dk_at dksX2_isTold_0 21 rfl rfl)
theorem dX2_isTold_22 : decode cX2_isTold 22 = .ok (.iaload, 1) := dk_46 (dk_at dksX2_isTold_0 22 rfl rfl)
theorem dX2_isTold_23 : decode cX2_isTold 23 = .ok (.iload_n 2, 1) := dk_28 (dk_at dksX2_isTold_0 23 rfl rfl)
theorem dX2_isTold_24 : decode cX2_isTold 24 = .ok (.if_icmp .ne 5, 3) := dk_160 0 5 (dk_at dksX2_isTold_1 0 rfl rfl)
theorem dX2_isTold_27 : decode cX2_isTold 27 = .ok (.iconst 1, 1) := dk_4 (dk_at dksX2_isTold_1 3 rfl rfl)
theorem dX2_isTold_28 : decode cX2_isTold 28 = .ok (.ireturn, 1) := dk_172 (dk_at dksX2_isTold_1 4 rfl rfl)
theorem dX2_isTold_29 : decode cX2_isTold 29 = .ok (.iinc 3 1, 3) := dk_132 3 1 (dk_at dksX2_isTold_1 5 rfl rfl)
theorem dX2_isTold_32 : decode cX2_isTold 32 = .ok (.goto (-30), 3) := dk_167 255 226 (dk_at dksX2_isTold_1 8 rfl rfl)
theorem dX2_isTold_35 : decode cX2_isTold 35 = .ok (.iconst 0, 1) := dk_3 (dk_at dksX2_isTold_1 11 rfl rfl)
theorem dX2_isTold_36 : decode cX2_isTold 36 = .ok (.ireturn, 1) := dk_172 (dk_at dksX2_isTold_1 12 rfl rfl)
abbrev cX2_hands : ByteArray := prog_18_method_14_code
def yX2_hands : MethodName := ⟨RX2, "hands", "(II)V"⟩
def dkwX2_hands_1 : List UInt8 := [182, 0, 107, 42, 180, 0, 25, 27, 2, 79, 42, 180, 0, 28, 27, 28, 79, 177]
abbrev dktX2_hands_1 : List UInt8 := dkwX2_hands_1 ++ []
def dkwX2_hands_0 : List UInt8 := [42, 180, 0, 46, 28, 42, 180, 0, 25, 27, 46, 79, 42, 27, 28, 42, 180, 0, 25, 27, 46, 178, 0, 103]
abbrev dktX2_hands_0 : List UInt8 := dkwX2_hands_0 ++ dktX2_hands_1
theorem dksX2_hands_0 : cX2_hands.data.toList.drop 0 = dktX2_hands_0 := by decide +kernel
theorem dksX2_hands_1 : cX2_hands.data.toList.drop 24 = dktX2_hands_1 := dk_seg dksX2_hands_0 24 rfl rfl
theorem dX2_hands_0 : decode cX2_hands 0 = .ok (.aload_n 0, 1) := dk_42 (dk_at dksX2_hands_0 0 rfl rfl)
theorem dX2_hands_1 : decode cX2_hands 1 = .ok (.getfield 46, 3) := dk_180 0 46 (dk_at dksX2_hands_0 1 rfl rfl)
theorem dX2_hands_4 : decode cX2_hands 4 = .ok (.iload_n 2, 1) := dk_28 (dk_at dksX2_hands_0 4 rfl rfl)
theorem dX2_hands_5 : decode cX2_hands 5 = .ok (.aload_n 0, 1) := dk_42 (dk_at dksX2_hands_0 5 rfl rfl)
theorem dX2_hands_6 : decode cX2_hands 6 = .ok (.getfield 25, 3) := dk_180 0 25 (dk_at dksX2_hands_0 6 rfl rfl)
theorem dX2_hands_9 : decode cX2_hands 9 = .ok (.iload_n 1, 1) := dk_27 (dk_at dksX2_hands_0 9 rfl rfl)
theorem dX2_hands_10 : decode cX2_hands 10 = .ok (.iaload, 1) := dk_46 (dk_at dksX2_hands_0 10 rfl rfl)
theorem dX2_hands_11 : decode cX2_hands 11 = .ok (.iastore, 1) := dk_79 (dk_at dksX2_hands_0 11 rfl rfl)
theorem dX2_hands_12 : decode cX2_hands 12 = .ok (.aload_n 0, 1) := dk_42 (dk_at dksX2_hands_0 12 rfl rfl)
theorem dX2_hands_13 : decode cX2_hands 13 = .ok (.iload_n 1, 1) := dk_27 (dk_at dksX2_hands_0 13 rfl rfl)
theorem dX2_hands_14 : decode cX2_hands 14 = .ok (.iload_n 2, 1) := dk_28 (dk_at dksX2_hands_0 14 rfl rfl)
theorem dX2_hands_15 : decode cX2_hands 15 = .ok (.aload_n 0, 1) := dk_42 (dk_at dksX2_hands_0 15 rfl rfl)
theorem dX2_hands_16 : decode cX2_hands 16 = .ok (.getfield 25, 3) := dk_180 0 25 (dk_at dksX2_hands_0 16 rfl rfl)
theorem dX2_hands_19 : decode cX2_hands 19 = .ok (.iload_n 1, 1) := dk_27 (dk_at dksX2_hands_0 19 rfl rfl)
theorem dX2_hands_20 : decode cX2_hands 20 = .ok (.iaload, 1) := dk_46 (dk_at dksX2_hands_0 20 rfl rfl)
theorem dX2_hands_21 : decode cX2_hands 21 = .ok (.getstatic 103, 3) := dk_178 0 103 (dk_at dksX2_hands_0 21 rfl rfl)
theorem dX2_hands_24 : decode cX2_hands 24 = .ok (.invokevirtual 107, 3) := dk_182 0 107 (dk_at dksX2_hands_1 0 rfl rfl)
theorem dX2_hands_27 : decode cX2_hands 27 = .ok (.aload_n 0, 1) := dk_42 (dk_at dksX2_hands_1 3 rfl rfl)
theorem dX2_hands_28 : decode cX2_hands 28 = .ok (.getfield 25, 3) := dk_180 0 25 (dk_at dksX2_hands_1 4 rfl rfl)
theorem dX2_hands_31 : decode cX2_hands 31 = .ok (.iload_n 1, 1) := dk_27 (dk_at dksX2_hands_1 7 rfl rfl)
theorem dX2_hands_32 : decode cX2_hands 32 = .ok (.iconst (-1), 1) := dk_2 (dk_at dksX2_hands_1 8 rfl rfl)
theorem dX2_hands_33 : decode cX2_hands 33 = .ok (.iastore, 1) := dk_79 (dk_at dksX2_hands_1 9 rfl rfl)
theorem dX2_hands_34 : decode cX2_hands 34 = .ok (.aload_n 0, 1) := dk_42 (dk_at dksX2_hands_1 10 rfl rfl)
theorem dX2_hands_35 : decode cX2_hands 35 = .ok (.getfield 28, 3) := dk_180 0 28 (dk_at dksX2_hands_1 11 rfl rfl)
theorem dX2_hands_38 : decode cX2_hands 38 = .ok (.iload_n 1, 1) := dk_27 (dk_at dksX2_hands_1 14 rfl rfl)
theorem dX2_hands_39 : decode cX2_hands 39 = .ok (.iload_n 2, 1) := dk_28 (dk_at dksX2_hands_1 15 rfl rfl)
theorem dX2_hands_40 : decode cX2_hands 40 = .ok (.iastore, 1) := dk_79 (dk_at dksX2_hands_1 16 rfl rfl)
theorem dX2_hands_41 : decode cX2_hands 41 = .ok (.return_, 1) := dk_177 (dk_at dksX2_hands_1 17 rfl rfl)
abbrev cX2_tells : ByteArray := prog_18_method_13_code
def yX2_tells : MethodName := ⟨RX2, "tells", "(IIILHungFaces$Which;)V"⟩
def dkwX2_tells_3 : List UInt8 := [184, 0, 97, 181, 0, 73, 177]
abbrev dktX2_tells_3 : List UInt8 := dkwX2_tells_3 ++ []
def dkwX2_tells_2 : List UInt8 := [6, 29, 79, 42, 180, 0, 49, 7, 25, 4, 182, 0, 91, 79, 42, 16, 60, 42, 180, 0, 73, 4, 96]
abbrev dktX2_tells_2 : List UInt8 := dkwX2_tells_2 ++ dktX2_tells_3
def dkwX2_tells_1 : List UInt8 := [3, 42, 180, 0, 64, 79, 42, 180, 0, 49, 4, 27, 79, 42, 180, 0, 49, 5, 28, 79, 42, 180, 0, 49]
abbrev dktX2_tells_1 : List UInt8 := dkwX2_tells_1 ++ dktX2_tells_2
def dkwX2_tells_0 : List UInt8 := [42, 180, 0, 49, 3, 42, 180, 0, 49, 8, 42, 180, 0, 49, 190, 8, 100, 184, 0, 84, 42, 180, 0, 49]
abbrev dktX2_tells_0 : List UInt8 := dkwX2_tells_0 ++ dktX2_tells_1
theorem dksX2_tells_0 : cX2_tells.data.toList.drop 0 = dktX2_tells_0 := by decide +kernel
theorem dksX2_tells_1 : cX2_tells.data.toList.drop 24 = dktX2_tells_1 := dk_seg dksX2_tells_0 24 rfl rfl
theorem dksX2_tells_2 : cX2_tells.data.toList.drop 48 = dktX2_tells_2 := dk_seg dksX2_tells_1 24 rfl rfl
theorem dksX2_tells_3 : cX2_tells.data.toList.drop 71 = dktX2_tells_3 := dk_seg dksX2_tells_2 23 rfl rfl
theorem dX2_tells_0 : decode cX2_tells 0 = .ok (.aload_n 0, 1) := dk_42 (dk_at dksX2_tells_0 0 rfl rfl)
theorem dX2_tells_1 : decode cX2_tells 1 = .ok (.getfield 49, 3) := dk_180 0 49 (dk_at dksX2_tells_0 1 rfl rfl)
theorem dX2_tells_4 : decode cX2_tells 4 = .ok (.iconst 0, 1) := dk_3 (dk_at dksX2_tells_0 4 rfl rfl)
theorem dX2_tells_5 : decode cX2_tells 5 = .ok (.aload_n 0, 1) := dk_42 (dk_at dksX2_tells_0 5 rfl rfl)
theorem dX2_tells_6 : decode cX2_tells 6 = .ok (.getfield 49, 3) := dk_180 0 49 (dk_at dksX2_tells_0 6 rfl rfl)
theorem dX2_tells_9 : decode cX2_tells 9 = .ok (.iconst 5, 1) := dk_8 (dk_at dksX2_tells_0 9 rfl rfl)
theorem dX2_tells_10 : decode cX2_tells 10 = .ok (.aload_n 0, 1) := dk_42 (dk_at dksX2_tells_0 10 rfl rfl)
theorem dX2_tells_11 : decode cX2_tells 11 = .ok (.getfield 49, 3) := dk_180 0 49 (dk_at dksX2_tells_0 11 rfl rfl)
theorem dX2_tells_14 : decode cX2_tells 14 = .ok (.arraylength, 1) := dk_190 (dk_at dksX2_tells_0 14 rfl rfl)
theorem dX2_tells_15 : decode cX2_tells 15 = .ok (.iconst 5, 1) := dk_8 (dk_at dksX2_tells_0 15 rfl rfl)
theorem dX2_tells_16 : decode cX2_tells 16 = .ok (.isub, 1) := dk_100 (dk_at dksX2_tells_0 16 rfl rfl)
theorem dX2_tells_17 : decode cX2_tells 17 = .ok (.invokestatic 84, 3) := dk_184 0 84 (dk_at dksX2_tells_0 17 rfl rfl)
theorem dX2_tells_20 : decode cX2_tells 20 = .ok (.aload_n 0, 1) := dk_42 (dk_at dksX2_tells_0 20 rfl rfl)
theorem dX2_tells_21 : decode cX2_tells 21 = .ok (.getfield 49, 3) := dk_180 0 49 (dk_at dksX2_tells_0 21 rfl rfl)
theorem dX2_tells_24 : decode cX2_tells 24 = .ok (.iconst 0, 1) := dk_3 (dk_at dksX2_tells_1 0 rfl rfl)
theorem dX2_tells_25 : decode cX2_tells 25 = .ok (.aload_n 0, 1) := dk_42 (dk_at dksX2_tells_1 1 rfl rfl)
theorem dX2_tells_26 : decode cX2_tells 26 = .ok (.getfield 64, 3) := dk_180 0 64 (dk_at dksX2_tells_1 2 rfl rfl)
theorem dX2_tells_29 : decode cX2_tells 29 = .ok (.iastore, 1) := dk_79 (dk_at dksX2_tells_1 5 rfl rfl)
theorem dX2_tells_30 : decode cX2_tells 30 = .ok (.aload_n 0, 1) := dk_42 (dk_at dksX2_tells_1 6 rfl rfl)
theorem dX2_tells_31 : decode cX2_tells 31 = .ok (.getfield 49, 3) := dk_180 0 49 (dk_at dksX2_tells_1 7 rfl rfl)
theorem dX2_tells_34 : decode cX2_tells 34 = .ok (.iconst 1, 1) := dk_4 (dk_at dksX2_tells_1 10 rfl rfl)
theorem dX2_tells_35 : decode cX2_tells 35 = .ok (.iload_n 1, 1) := dk_27 (dk_at dksX2_tells_1 11 rfl rfl)
theorem dX2_tells_36 : decode cX2_tells 36 = .ok (.iastore, 1) := dk_79 (dk_at dksX2_tells_1 12 rfl rfl)
theorem dX2_tells_37 : decode cX2_tells 37 = .ok (.aload_n 0, 1) := dk_42 (dk_at dksX2_tells_1 13 rfl rfl)
theorem dX2_tells_38 : decode cX2_tells 38 = .ok (.getfield 49, 3) := dk_180 0 49 (dk_at dksX2_tells_1 14 rfl rfl)
theorem dX2_tells_41 : decode cX2_tells 41 = .ok (.iconst 2, 1) := dk_5 (dk_at dksX2_tells_1 17 rfl rfl)
theorem dX2_tells_42 : decode cX2_tells 42 = .ok (.iload_n 2, 1) := dk_28 (dk_at dksX2_tells_1 18 rfl rfl)
theorem dX2_tells_43 : decode cX2_tells 43 = .ok (.iastore, 1) := dk_79 (dk_at dksX2_tells_1 19 rfl rfl)
theorem dX2_tells_44 : decode cX2_tells 44 = .ok (.aload_n 0, 1) := dk_42 (dk_at dksX2_tells_1 20 rfl rfl)
theorem dX2_tells_45 : decode cX2_tells 45 = .ok (.getfield 49, 3) := dk_180 0 49 (dk_at dksX2_tells_1 21 rfl rfl)
theorem dX2_tells_48 : decode cX2_tells 48 = .ok (.iconst 3, 1) := dk_6 (dk_at dksX2_tells_2 0 rfl rfl)
theorem dX2_tells_49 : decode cX2_tells 49 = .ok (.iload_n 3, 1) := dk_29 (dk_at dksX2_tells_2 1 rfl rfl)
theorem dX2_tells_50 : decode cX2_tells 50 = .ok (.iastore, 1) := dk_79 (dk_at dksX2_tells_2 2 rfl rfl)
theorem dX2_tells_51 : decode cX2_tells 51 = .ok (.aload_n 0, 1) := dk_42 (dk_at dksX2_tells_2 3 rfl rfl)
theorem dX2_tells_52 : decode cX2_tells 52 = .ok (.getfield 49, 3) := dk_180 0 49 (dk_at dksX2_tells_2 4 rfl rfl)
theorem dX2_tells_55 : decode cX2_tells 55 = .ok (.iconst 4, 1) := dk_7 (dk_at dksX2_tells_2 7 rfl rfl)
theorem dX2_tells_56 : decode cX2_tells 56 = .ok (.aload 4, 2) := dk_25 4 (dk_at dksX2_tells_2 8 rfl rfl)
theorem dX2_tells_58 : decode cX2_tells 58 = .ok (.invokevirtual 91, 3) := dk_182 0 91 (dk_at dksX2_tells_2 10 rfl rfl)
theorem dX2_tells_61 : decode cX2_tells 61 = .ok (.iastore, 1) := dk_79 (dk_at dksX2_tells_2 13 rfl rfl)
theorem dX2_tells_62 : decode cX2_tells 62 = .ok (.aload_n 0, 1) := dk_42 (dk_at dksX2_tells_2 14 rfl rfl)
theorem dX2_tells_63 : decode cX2_tells 63 = .ok (.bipush 60, 2) := dk_16 60 (dk_at dksX2_tells_2 15 rfl rfl)
theorem dX2_tells_65 : decode cX2_tells 65 = .ok (.aload_n 0, 1) := dk_42 (dk_at dksX2_tells_2 17 rfl rfl)
theorem dX2_tells_66 : decode cX2_tells 66 = .ok (.getfield 73, 3) := dk_180 0 73 (dk_at dksX2_tells_2 18 rfl rfl)
theorem dX2_tells_69 : decode cX2_tells 69 = .ok (.iconst 1, 1) := dk_4 (dk_at dksX2_tells_2 21 rfl rfl)
theorem dX2_tells_70 : decode cX2_tells 70 = .ok (.iadd, 1) := dk_96 (dk_at dksX2_tells_2 22 rfl rfl)
theorem dX2_tells_71 : decode cX2_tells 71 = .ok (.invokestatic 97, 3) := dk_184 0 97 (dk_at dksX2_tells_3 0 rfl rfl)
theorem dX2_tells_74 : decode cX2_tells 74 = .ok (.putfield 73, 3) := dk_181 0 73 (dk_at dksX2_tells_3 3 rfl rfl)
theorem dX2_tells_77 : decode cX2_tells 77 = .ok (.return_, 1) := dk_177 (dk_at dksX2_tells_3 6 rfl rfl)
abbrev cX2_fetches : ByteArray := prog_18_method_16_code
def yX2_fetches : MethodName := ⟨RX2, "fetches", "(I)V"⟩
def dkwX2_fetches_0 : List UInt8 := [42, 180, 0, 28, 27, 46, 61, 42, 180, 0, 28, 27, 2, 79, 42, 27, 28, 178, 0, 111, 182, 0, 114, 177]
abbrev dktX2_fetches_0 : List UInt8 := dkwX2_fetches_0 ++ []
theorem dksX2_fetches_0 : cX2_fetches.data.toList.drop 0 = dktX2_fetches_0 := by decide +kernel
theorem dX2_fetches_0 : decode cX2_fetches 0 = .ok (.aload_n 0, 1) := dk_42 (dk_at dksX2_fetches_0 0 rfl rfl)
theorem dX2_fetches_1 : decode cX2_fetches 1 = .ok (.getfield 28, 3) := dk_180 0 28 (dk_at dksX2_fetches_0 1 rfl rfl)
theorem dX2_fetches_4 : decode cX2_fetches 4 = .ok (.iload_n 1, 1) := dk_27 (dk_at dksX2_fetches_0 4 rfl rfl)
theorem dX2_fetches_5 : decode cX2_fetches 5 = .ok (.iaload, 1) := dk_46 (dk_at dksX2_fetches_0 5 rfl rfl)
theorem dX2_fetches_6 : decode cX2_fetches 6 = .ok (.istore_n 2, 1) := dk_61 (dk_at dksX2_fetches_0 6 rfl rfl)
theorem dX2_fetches_7 : decode cX2_fetches 7 = .ok (.aload_n 0, 1) := dk_42 (dk_at dksX2_fetches_0 7 rfl rfl)
theorem dX2_fetches_8 : decode cX2_fetches 8 = .ok (.getfield 28, 3) := dk_180 0 28 (dk_at dksX2_fetches_0 8 rfl rfl)
theorem dX2_fetches_11 : decode cX2_fetches 11 = .ok (.iload_n 1, 1) := dk_27 (dk_at dksX2_fetches_0 11 rfl rfl)
theorem dX2_fetches_12 : decode cX2_fetches 12 = .ok (.iconst (-1), 1) := dk_2 (dk_at dksX2_fetches_0 12 rfl rfl)
theorem dX2_fetches_13 : decode cX2_fetches 13 = .ok (.iastore, 1) := dk_79 (dk_at dksX2_fetches_0 13 rfl rfl)
theorem dX2_fetches_14 : decode cX2_fetches 14 = .ok (.aload_n 0, 1) := dk_42 (dk_at dksX2_fetches_0 14 rfl rfl)
theorem dX2_fetches_15 : decode cX2_fetches 15 = .ok (.iload_n 1, 1) := dk_27 (dk_at dksX2_fetches_0 15 rfl rfl)
theorem dX2_fetches_16 : decode cX2_fetches 16 = .ok (.iload_n 2, 1) := dk_28 (dk_at dksX2_fetches_0 16 rfl rfl)
theorem dX2_fetches_17 : decode cX2_fetches 17 = .ok (.getstatic 111, 3) := dk_178 0 111 (dk_at dksX2_fetches_0 17 rfl rfl)
theorem dX2_fetches_20 : decode cX2_fetches 20 = .ok (.invokevirtual 114, 3) := dk_182 0 114 (dk_at dksX2_fetches_0 20 rfl rfl)
theorem dX2_fetches_23 : decode cX2_fetches 23 = .ok (.return_, 1) := dk_177 (dk_at dksX2_fetches_0 23 rfl rfl)
abbrev cX2_takes : ByteArray := prog_18_method_15_code
def yX2_takes : MethodName := ⟨RX2, "takes", "(IILHungFaces$Which;)V"⟩
def dkwX2_takes_1 : List UInt8 := [180, 0, 25, 27, 46, 45, 182, 0, 107, 177]
abbrev dktX2_takes_1 : List UInt8 := dkwX2_takes_1 ++ []
def dkwX2_takes_0 : List UInt8 := [42, 180, 0, 25, 27, 42, 180, 0, 46, 28, 46, 79, 42, 180, 0, 46, 28, 2, 79, 42, 27, 28, 42]
abbrev dktX2_takes_0 : List UInt8 := dkwX2_takes_0 ++ dktX2_takes_1
theorem dksX2_takes_0 : cX2_takes.data.toList.drop 0 = dktX2_takes_0 := by decide +kernel
theorem dksX2_takes_1 : cX2_takes.data.toList.drop 23 = dktX2_takes_1 := dk_seg dksX2_takes_0 23 rfl rfl
theorem dX2_takes_0 : decode cX2_takes 0 = .ok (.aload_n 0, 1) := dk_42 (dk_at dksX2_takes_0 0 rfl rfl)
theorem dX2_takes_1 : decode cX2_takes 1 = .ok (.getfield 25, 3) := dk_180 0 25 (dk_at dksX2_takes_0 1 rfl rfl)
theorem dX2_takes_4 : decode cX2_takes 4 = .ok (.iload_n 1, 1) := dk_27 (dk_at dksX2_takes_0 4 rfl rfl)
theorem dX2_takes_5 : decode cX2_takes 5 = .ok (.aload_n 0, 1) := dk_42 (dk_at dksX2_takes_0 5 rfl rfl)
theorem dX2_takes_6 : decode cX2_takes 6 = .ok (.getfield 46, 3) := dk_180 0 46 (dk_at dksX2_takes_0 6 rfl rfl)
theorem dX2_takes_9 : decode cX2_takes 9 = .ok (.iload_n 2, 1) := dk_28 (dk_at dksX2_takes_0 9 rfl rfl)
theorem dX2_takes_10 : decode cX2_takes 10 = .ok (.iaload, 1) := dk_46 (dk_at dksX2_takes_0 10 rfl rfl)
theorem dX2_takes_11 : decode cX2_takes 11 = .ok (.iastore, 1) := dk_79 (dk_at dksX2_takes_0 11 rfl rfl)
theorem dX2_takes_12 : decode cX2_takes 12 = .ok (.aload_n 0, 1) := dk_42 (dk_at dksX2_takes_0 12 rfl rfl)
theorem dX2_takes_13 : decode cX2_takes 13 = .ok (.getfield 46, 3) := dk_180 0 46 (dk_at dksX2_takes_0 13 rfl rfl)
theorem dX2_takes_16 : decode cX2_takes 16 = .ok (.iload_n 2, 1) := dk_28 (dk_at dksX2_takes_0 16 rfl rfl)
theorem dX2_takes_17 : decode cX2_takes 17 = .ok (.iconst (-1), 1) := dk_2 (dk_at dksX2_takes_0 17 rfl rfl)
theorem dX2_takes_18 : decode cX2_takes 18 = .ok (.iastore, 1) := dk_79 (dk_at dksX2_takes_0 18 rfl rfl)
theorem dX2_takes_19 : decode cX2_takes 19 = .ok (.aload_n 0, 1) := dk_42 (dk_at dksX2_takes_0 19 rfl rfl)
theorem dX2_takes_20 : decode cX2_takes 20 = .ok (.iload_n 1, 1) := dk_27 (dk_at dksX2_takes_0 20 rfl rfl)
theorem dX2_takes_21 : decode cX2_takes 21 = .ok (.iload_n 2, 1) := dk_28 (dk_at dksX2_takes_0 21 rfl rfl)
theorem dX2_takes_22 : decode cX2_takes 22 = .ok (.aload_n 0, 1) := dk_42 (dk_at dksX2_takes_0 22 rfl rfl)
theorem dX2_takes_23 : decode cX2_takes 23 = .ok (.getfield 25, 3) := dk_180 0 25 (dk_at dksX2_takes_1 0 rfl rfl)
theorem dX2_takes_26 : decode cX2_takes 26 = .ok (.iload_n 1, 1) := dk_27 (dk_at dksX2_takes_1 3 rfl rfl)
theorem dX2_takes_27 : decode cX2_takes 27 = .ok (.iaload, 1) := dk_46 (dk_at dksX2_takes_1 4 rfl rfl)
theorem dX2_takes_28 : decode cX2_takes 28 = .ok (.aload_n 3, 1) := dk_45 (dk_at dksX2_takes_1 5 rfl rfl)
theorem dX2_takes_29 : decode cX2_takes 29 = .ok (.invokevirtual 107, 3) := dk_182 0 107 (dk_at dksX2_takes_1 6 rfl rfl)
theorem dX2_takes_32 : decode cX2_takes 32 = .ok (.return_, 1) := dk_177 (dk_at dksX2_takes_1 9 rfl rfl)
abbrev cX2_mixes : ByteArray := prog_18_method_17_code
def yX2_mixes : MethodName := ⟨RX2, "mixes", "(II)V"⟩
def dkwX2_mixes_3 : List UInt8 := [182, 0, 107, 177]
abbrev dktX2_mixes_3 : List UInt8 := dkwX2_mixes_3 ++ []
def dkwX2_mixes_2 : List UInt8 := [21, 4, 46, 2, 178, 0, 121, 182, 0, 107, 42, 21, 5, 42, 180, 0, 28, 21, 5, 46, 2, 178, 0, 121]
abbrev dktX2_mixes_2 : List UInt8 := dkwX2_mixes_2 ++ dktX2_mixes_3
def dkwX2_mixes_1 : List UInt8 := [29, 79, 27, 28, 184, 0, 97, 54, 4, 27, 28, 184, 0, 118, 54, 5, 42, 21, 4, 42, 180, 0, 28]
abbrev dktX2_mixes_1 : List UInt8 := dkwX2_mixes_1 ++ dktX2_mixes_2
def dkwX2_mixes_0 : List UInt8 := [42, 180, 0, 28, 27, 46, 62, 42, 180, 0, 28, 27, 42, 180, 0, 28, 28, 46, 79, 42, 180, 0, 28, 28]
abbrev dktX2_mixes_0 : List UInt8 := dkwX2_mixes_0 ++ dktX2_mixes_1
theorem dksX2_mixes_0 : cX2_mixes.data.toList.drop 0 = dktX2_mixes_0 := by decide +kernel
theorem dksX2_mixes_1 : cX2_mixes.data.toList.drop 24 = dktX2_mixes_1 := dk_seg dksX2_mixes_0 24 rfl rfl
theorem dksX2_mixes_2 : cX2_mixes.data.toList.drop 47 = dktX2_mixes_2 := dk_seg dksX2_mixes_1 23 rfl rfl
theorem dksX2_mixes_3 : cX2_mixes.data.toList.drop 71 = dktX2_mixes_3 := dk_seg dksX2_mixes_2 24 rfl rfl
theorem dX2_mixes_0 : decode cX2_mixes 0 = .ok (.aload_n 0, 1) := dk_42 (dk_at dksX2_mixes_0 0 rfl rfl)
theorem dX2_mixes_1 : decode cX2_mixes 1 = .ok (.getfield 28, 3) := dk_180 0 28 (dk_at dksX2_mixes_0 1 rfl rfl)
theorem dX2_mixes_4 : decode cX2_mixes 4 = .ok (.iload_n 1, 1) := dk_27 (dk_at dksX2_mixes_0 4 rfl rfl)
theorem dX2_mixes_5 : decode cX2_mixes 5 = .ok (.iaload, 1) := dk_46 (dk_at dksX2_mixes_0 5 rfl rfl)
theorem dX2_mixes_6 : decode cX2_mixes 6 = .ok (.istore_n 3, 1) := dk_62 (dk_at dksX2_mixes_0 6 rfl rfl)
theorem dX2_mixes_7 : decode cX2_mixes 7 = .ok (.aload_n 0, 1) := dk_42 (dk_at dksX2_mixes_0 7 rfl rfl)
theorem dX2_mixes_8 : decode cX2_mixes 8 = .ok (.getfield 28, 3) := dk_180 0 28 (dk_at dksX2_mixes_0 8 rfl rfl)
theorem dX2_mixes_11 : decode cX2_mixes 11 = .ok (.iload_n 1, 1) := dk_27 (dk_at dksX2_mixes_0 11 rfl rfl)
theorem dX2_mixes_12 : decode cX2_mixes 12 = .ok (.aload_n 0, 1) := dk_42 (dk_at dksX2_mixes_0 12 rfl rfl)
theorem dX2_mixes_13 : decode cX2_mixes 13 = .ok (.getfield 28, 3) := dk_180 0 28 (dk_at dksX2_mixes_0 13 rfl rfl)
theorem dX2_mixes_16 : decode cX2_mixes 16 = .ok (.iload_n 2, 1) := dk_28 (dk_at dksX2_mixes_0 16 rfl rfl)
theorem dX2_mixes_17 : decode cX2_mixes 17 = .ok (.iaload, 1) := dk_46 (dk_at dksX2_mixes_0 17 rfl rfl)
theorem dX2_mixes_18 : decode cX2_mixes 18 = .ok (.iastore, 1) := dk_79 (dk_at dksX2_mixes_0 18 rfl rfl)
theorem dX2_mixes_19 : decode cX2_mixes 19 = .ok (.aload_n 0, 1) := dk_42 (dk_at dksX2_mixes_0 19 rfl rfl)
theorem dX2_mixes_20 : decode cX2_mixes 20 = .ok (.getfield 28, 3) := dk_180 0 28 (dk_at dksX2_mixes_0 20 rfl rfl)
theorem dX2_mixes_23 : decode cX2_mixes 23 = .ok (.iload_n 2, 1) := dk_28 (dk_at dksX2_mixes_0 23 rfl rfl)
theorem dX2_mixes_24 : decode cX2_mixes 24 = .ok (.iload_n 3, 1) := dk_29 (dk_at dksX2_mixes_1 0 rfl rfl)
theorem dX2_mixes_25 : decode cX2_mixes 25 = .ok (.iastore, 1) := dk_79 (dk_at dksX2_mixes_1 1 rfl rfl)
theorem dX2_mixes_26 : decode cX2_mixes 26 = .ok (.iload_n 1, 1) := dk_27 (dk_at dksX2_mixes_1 2 rfl rfl)
theorem dX2_mixes_27 : decode cX2_mixes 27 = .ok (.iload_n 2, 1) := dk_28 (dk_at dksX2_mixes_1 3 rfl rfl)
theorem dX2_mixes_28 : decode cX2_mixes 28 = .ok (.invokestatic 97, 3) := dk_184 0 97 (dk_at dksX2_mixes_1 4 rfl rfl)
theorem dX2_mixes_31 : decode cX2_mixes 31 = .ok (.istore 4, 2) := dk_54 4 (dk_at dksX2_mixes_1 7 rfl rfl)
theorem dX2_mixes_33 : decode cX2_mixes 33 = .ok (.iload_n 1, 1) := dk_27 (dk_at dksX2_mixes_1 9 rfl rfl)
theorem dX2_mixes_34 : decode cX2_mixes 34 = .ok (.iload_n 2, 1) := dk_28 (dk_at dksX2_mixes_1 10 rfl rfl)
theorem dX2_mixes_35 : decode cX2_mixes 35 = .ok (.invokestatic 118, 3) := dk_184 0 118 (dk_at dksX2_mixes_1 11 rfl rfl)
theorem dX2_mixes_38 : decode cX2_mixes 38 = .ok (.istore 5, 2) := dk_54 5 (dk_at dksX2_mixes_1 14 rfl rfl)
theorem dX2_mixes_40 : decode cX2_mixes 40 = .ok (.aload_n 0, 1) := dk_42 (dk_at dksX2_mixes_1 16 rfl rfl)
theorem dX2_mixes_41 : decode cX2_mixes 41 = .ok (.iload 4, 2) := dk_21 4 (dk_at dksX2_mixes_1 17 rfl rfl)
theorem dX2_mixes_43 : decode cX2_mixes 43 = .ok (.aload_n 0, 1) := dk_42 (dk_at dksX2_mixes_1 19 rfl rfl)
theorem dX2_mixes_44 : decode cX2_mixes 44 = .ok (.getfield 28, 3) := dk_180 0 28 (dk_at dksX2_mixes_1 20 rfl rfl)
theorem dX2_mixes_47 : decode cX2_mixes 47 = .ok (.iload 4, 2) := dk_21 4 (dk_at dksX2_mixes_2 0 rfl rfl)
theorem dX2_mixes_49 : decode cX2_mixes 49 = .ok (.iaload, 1) := dk_46 (dk_at dksX2_mixes_2 2 rfl rfl)
theorem dX2_mixes_50 : decode cX2_mixes 50 = .ok (.iconst (-1), 1) := dk_2 (dk_at dksX2_mixes_2 3 rfl rfl)
theorem dX2_mixes_51 : decode cX2_mixes 51 = .ok (.getstatic 121, 3) := dk_178 0 121 (dk_at dksX2_mixes_2 4 rfl rfl)
theorem dX2_mixes_54 : decode cX2_mixes 54 = .ok (.invokevirtual 107, 3) := dk_182 0 107 (dk_at dksX2_mixes_2 7 rfl rfl)
theorem dX2_mixes_57 : decode cX2_mixes 57 = .ok (.aload_n 0, 1) := dk_42 (dk_at dksX2_mixes_2 10 rfl rfl)
theorem dX2_mixes_58 : decode cX2_mixes 58 = .ok (.iload 5, 2) := dk_21 5 (dk_at dksX2_mixes_2 11 rfl rfl)
theorem dX2_mixes_60 : decode cX2_mixes 60 = .ok (.aload_n 0, 1) := dk_42 (dk_at dksX2_mixes_2 13 rfl rfl)
theorem dX2_mixes_61 : decode cX2_mixes 61 = .ok (.getfield 28, 3) := dk_180 0 28 (dk_at dksX2_mixes_2 14 rfl rfl)
theorem dX2_mixes_64 : decode cX2_mixes 64 = .ok (.iload 5, 2) := dk_21 5 (dk_at dksX2_mixes_2 17 rfl rfl)
theorem dX2_mixes_66 : decode cX2_mixes 66 = .ok (.iaload, 1) := dk_46 (dk_at dksX2_mixes_2 19 rfl rfl)
theorem dX2_mixes_67 : decode cX2_mixes 67 = .ok (.iconst (-1), 1) := dk_2 (dk_at dksX2_mixes_2 20 rfl rfl)
theorem dX2_mixes_68 : decode cX2_mixes 68 = .ok (.getstatic 121, 3) := dk_178 0 121 (dk_at dksX2_mixes_2 21 rfl rfl)
theorem dX2_mixes_71 : decode cX2_mixes 71 = .ok (.invokevirtual 107, 3) := dk_182 0 107 (dk_at dksX2_mixes_3 0 rfl rfl)
theorem dX2_mixes_74 : decode cX2_mixes 74 = .ok (.return_, 1) := dk_177 (dk_at dksX2_mixes_3 3 rfl rfl)
abbrev cX2_meets : ByteArray := prog_18_method_18_code
def yX2_meets : MethodName := ⟨RX2, "meets", "(II)V"⟩
def dkwX2_meets_3 : List UInt8 := [28, 104, 27, 96, 42, 180, 0, 34, 27, 46, 79, 177]
abbrev dktX2_meets_3 : List UInt8 := dkwX2_meets_3 ++ []
def dkwX2_meets_2 : List UInt8 := [79, 42, 180, 0, 37, 16, 10, 27, 104, 28, 96, 42, 180, 0, 34, 28, 46, 79, 42, 180, 0, 37, 16, 10]
abbrev dktX2_meets_2 : List UInt8 := dkwX2_meets_2 ++ dktX2_meets_3
def dkwX2_meets_1 : List UInt8 := [180, 0, 34, 27, 29, 4, 27, 120, 2, 130, 126, 79, 42, 180, 0, 34, 28, 29, 4, 28, 120, 2, 130, 126]
abbrev dktX2_meets_1 : List UInt8 := dkwX2_meets_1 ++ dktX2_meets_2
def dkwX2_meets_0 : List UInt8 := [42, 180, 0, 34, 27, 46, 42, 180, 0, 34, 28, 46, 128, 4, 27, 120, 128, 4, 28, 120, 128, 62, 42]
abbrev dktX2_meets_0 : List UInt8 := dkwX2_meets_0 ++ dktX2_meets_1
theorem dksX2_meets_0 : cX2_meets.data.toList.drop 0 = dktX2_meets_0 := by decide +kernel
theorem dksX2_meets_1 : cX2_meets.data.toList.drop 23 = dktX2_meets_1 := dk_seg dksX2_meets_0 23 rfl rfl
theorem dksX2_meets_2 : cX2_meets.data.toList.drop 47 = dktX2_meets_2 := dk_seg dksX2_meets_1 24 rfl rfl
theorem dksX2_meets_3 : cX2_meets.data.toList.drop 71 = dktX2_meets_3 := dk_seg dksX2_meets_2 24 rfl rfl
theorem dX2_meets_0 : decode cX2_meets 0 = .ok (.aload_n 0, 1) := dk_42 (dk_at dksX2_meets_0 0 rfl rfl)
theorem dX2_meets_1 : decode cX2_meets 1 = .ok (.getfield 34, 3) := dk_180 0 34 (dk_at dksX2_meets_0 1 rfl rfl)
theorem dX2_meets_4 : decode cX2_meets 4 = .ok (.iload_n 1, 1) := dk_27 (dk_at dksX2_meets_0 4 rfl rfl)
theorem dX2_meets_5 : decode cX2_meets 5 = .ok (.iaload, 1) := dk_46 (dk_at dksX2_meets_0 5 rfl rfl)
theorem dX2_meets_6 : decode cX2_meets 6 = .ok (.aload_n 0, 1) := dk_42 (dk_at dksX2_meets_0 6 rfl rfl)
theorem dX2_meets_7 : decode cX2_meets 7 = .ok (.getfield 34, 3) := dk_180 0 34 (dk_at dksX2_meets_0 7 rfl rfl)
theorem dX2_meets_10 : decode cX2_meets 10 = .ok (.iload_n 2, 1) := dk_28 (dk_at dksX2_meets_0 10 rfl rfl)
theorem dX2_meets_11 : decode cX2_meets 11 = .ok (.iaload, 1) := dk_46 (dk_at dksX2_meets_0 11 rfl rfl)
theorem dX2_meets_12 : decode cX2_meets 12 = .ok (.ior, 1) := dk_128 (dk_at dksX2_meets_0 12 rfl rfl)
theorem dX2_meets_13 : decode cX2_meets 13 = .ok (.iconst 1, 1) := dk_4 (dk_at dksX2_meets_0 13 rfl rfl)
theorem dX2_meets_14 : decode cX2_meets 14 = .ok (.iload_n 1, 1) := dk_27 (dk_at dksX2_meets_0 14 rfl rfl)
theorem dX2_meets_15 : decode cX2_meets 15 = .ok (.ishl, 1) := dk_120 (dk_at dksX2_meets_0 15 rfl rfl)
theorem dX2_meets_16 : decode cX2_meets 16 = .ok (.ior, 1) := dk_128 (dk_at dksX2_meets_0 16 rfl rfl)
theorem dX2_meets_17 : decode cX2_meets 17 = .ok (.iconst 1, 1) := dk_4 (dk_at dksX2_meets_0 17 rfl rfl)
theorem dX2_meets_18 : decode cX2_meets 18 = .ok (.iload_n 2, 1) := dk_28 (dk_at dksX2_meets_0 18 rfl rfl)
theorem dX2_meets_19 : decode cX2_meets 19 = .ok (.ishl, 1) := dk_120 (dk_at dksX2_meets_0 19 rfl rfl)
theorem dX2_meets_20 : decode cX2_meets 20 = .ok (.ior, 1) := dk_128 (dk_at dksX2_meets_0 20 rfl rfl)
theorem dX2_meets_21 : decode cX2_meets 21 = .ok (.istore_n 3, 1) := dk_62 (dk_at dksX2_meets_0 21 rfl rfl)
theorem dX2_meets_22 : decode cX2_meets 22 = .ok (.aload_n 0, 1) := dk_42 (dk_at dksX2_meets_0 22 rfl rfl)
theorem dX2_meets_23 : decode cX2_meets 23 = .ok (.getfield 34, 3) := dk_180 0 34 (dk_at dksX2_meets_1 0 rfl rfl)
theorem dX2_meets_26 : decode cX2_meets 26 = .ok (.iload_n 1, 1) := dk_27 (dk_at dksX2_meets_1 3 rfl rfl)
theorem dX2_meets_27 : decode cX2_meets 27 = .ok (.iload_n 3, 1) := dk_29 (dk_at dksX2_meets_1 4 rfl rfl)
theorem dX2_meets_28 : decode cX2_meets 28 = .ok (.iconst 1, 1) := dk_4 (dk_at dksX2_meets_1 5 rfl rfl)
theorem dX2_meets_29 : decode cX2_meets 29 = .ok (.iload_n 1, 1) := dk_27 (dk_at dksX2_meets_1 6 rfl rfl)
theorem dX2_meets_30 : decode cX2_meets 30 = .ok (.ishl, 1) := dk_120 (dk_at dksX2_meets_1 7 rfl rfl)
theorem dX2_meets_31 : decode cX2_meets 31 = .ok (.iconst (-1), 1) := dk_2 (dk_at dksX2_meets_1 8 rfl rfl)
theorem dX2_meets_32 : decode cX2_meets 32 = .ok (.ixor, 1) := dk_130 (dk_at dksX2_meets_1 9 rfl rfl)
theorem dX2_meets_33 : decode cX2_meets 33 = .ok (.iand, 1) := dk_126 (dk_at dksX2_meets_1 10 rfl rfl)
theorem dX2_meets_34 : decode cX2_meets 34 = .ok (.iastore, 1) := dk_79 (dk_at dksX2_meets_1 11 rfl rfl)
theorem dX2_meets_35 : decode cX2_meets 35 = .ok (.aload_n 0, 1) := dk_42 (dk_at dksX2_meets_1 12 rfl rfl)
theorem dX2_meets_36 : decode cX2_meets 36 = .ok (.getfield 34, 3) := dk_180 0 34 (dk_at dksX2_meets_1 13 rfl rfl)
theorem dX2_meets_39 : decode cX2_meets 39 = .ok (.iload_n 2, 1) := dk_28 (dk_at dksX2_meets_1 16 rfl rfl)
theorem dX2_meets_40 : decode cX2_meets 40 = .ok (.iload_n 3, 1) := dk_29 (dk_at dksX2_meets_1 17 rfl rfl)
theorem dX2_meets_41 : decode cX2_meets 41 = .ok (.iconst 1, 1) := dk_4 (dk_at dksX2_meets_1 18 rfl rfl)
theorem dX2_meets_42 : decode cX2_meets 42 = .ok (.iload_n 2, 1) := dk_28 (dk_at dksX2_meets_1 19 rfl rfl)
theorem dX2_meets_43 : decode cX2_meets 43 = .ok (.ishl, 1) := dk_120 (dk_at dksX2_meets_1 20 rfl rfl)
theorem dX2_meets_44 : decode cX2_meets 44 = .ok (.iconst (-1), 1) := dk_2 (dk_at dksX2_meets_1 21 rfl rfl)
theorem dX2_meets_45 : decode cX2_meets 45 = .ok (.ixor, 1) := dk_130 (dk_at dksX2_meets_1 22 rfl rfl)
theorem dX2_meets_46 : decode cX2_meets 46 = .ok (.iand, 1) := dk_126 (dk_at dksX2_meets_1 23 rfl rfl)
theorem dX2_meets_47 : decode cX2_meets 47 = .ok (.iastore, 1) := dk_79 (dk_at dksX2_meets_2 0 rfl rfl)
theorem dX2_meets_48 : decode cX2_meets 48 = .ok (.aload_n 0, 1) := dk_42 (dk_at dksX2_meets_2 1 rfl rfl)
theorem dX2_meets_49 : decode cX2_meets 49 = .ok (.getfield 37, 3) := dk_180 0 37 (dk_at dksX2_meets_2 2 rfl rfl)
theorem dX2_meets_52 : decode cX2_meets 52 = .ok (.bipush 10, 2) := dk_16 10 (dk_at dksX2_meets_2 5 rfl rfl)
theorem dX2_meets_54 : decode cX2_meets 54 = .ok (.iload_n 1, 1) := dk_27 (dk_at dksX2_meets_2 7 rfl rfl)
theorem dX2_meets_55 : decode cX2_meets 55 = .ok (.imul, 1) := dk_104 (dk_at dksX2_meets_2 8 rfl rfl)
theorem dX2_meets_56 : decode cX2_meets 56 = .ok (.iload_n 2, 1) := dk_28 (dk_at dksX2_meets_2 9 rfl rfl)
theorem dX2_meets_57 : decode cX2_meets 57 = .ok (.iadd, 1) := dk_96 (dk_at dksX2_meets_2 10 rfl rfl)
theorem dX2_meets_58 : decode cX2_meets 58 = .ok (.aload_n 0, 1) := dk_42 (dk_at dksX2_meets_2 11 rfl rfl)
theorem dX2_meets_59 : decode cX2_meets 59 = .ok (.getfield 34, 3) := dk_180 0 34 (dk_at dksX2_meets_2 12 rfl rfl)
theorem dX2_meets_62 : decode cX2_meets 62 = .ok (.iload_n 2, 1) := dk_28 (dk_at dksX2_meets_2 15 rfl rfl)
theorem dX2_meets_63 : decode cX2_meets 63 = .ok (.iaload, 1) := dk_46 (dk_at dksX2_meets_2 16 rfl rfl)
theorem dX2_meets_64 : decode cX2_meets 64 = .ok (.iastore, 1) := dk_79 (dk_at dksX2_meets_2 17 rfl rfl)
theorem dX2_meets_65 : decode cX2_meets 65 = .ok (.aload_n 0, 1) := dk_42 (dk_at dksX2_meets_2 18 rfl rfl)
theorem dX2_meets_66 : decode cX2_meets 66 = .ok (.getfield 37, 3) := dk_180 0 37 (dk_at dksX2_meets_2 19 rfl rfl)
theorem dX2_meets_69 : decode cX2_meets 69 = .ok (.bipush 10, 2) := dk_16 10 (dk_at dksX2_meets_2 22 rfl rfl)
theorem dX2_meets_71 : decode cX2_meets 71 = .ok (.iload_n 2, 1) := dk_28 (dk_at dksX2_meets_3 0 rfl rfl)
theorem dX2_meets_72 : decode cX2_meets 72 = .ok (.imul, 1) := dk_104 (dk_at dksX2_meets_3 1 rfl rfl)
theorem dX2_meets_73 : decode cX2_meets 73 = .ok (.iload_n 1, 1) := dk_27 (dk_at dksX2_meets_3 2 rfl rfl)
theorem dX2_meets_74 : decode cX2_meets 74 = .ok (.iadd, 1) := dk_96 (dk_at dksX2_meets_3 3 rfl rfl)
theorem dX2_meets_75 : decode cX2_meets 75 = .ok (.aload_n 0, 1) := dk_42 (dk_at dksX2_meets_3 4 rfl rfl)
theorem dX2_meets_76 : decode cX2_meets 76 = .ok (.getfield 34, 3) := dk_180 0 34 (dk_at dksX2_meets_3 5 rfl rfl)
theorem dX2_meets_79 : decode cX2_meets 79 = .ok (.iload_n 1, 1) := dk_27 (dk_at dksX2_meets_3 8 rfl rfl)
theorem dX2_meets_80 : decode cX2_meets 80 = .ok (.iaload, 1) := dk_46 (dk_at dksX2_meets_3 9 rfl rfl)
theorem dX2_meets_81 : decode cX2_meets 81 = .ok (.iastore, 1) := dk_79 (dk_at dksX2_meets_3 10 rfl rfl)
theorem dX2_meets_82 : decode cX2_meets 82 = .ok (.return_, 1) := dk_177 (dk_at dksX2_meets_3 11 rfl rfl)
abbrev cX2_freeHook : ByteArray := prog_18_method_9_code
def yX2_freeHook : MethodName := ⟨RX2, "freeHook", "()I"⟩
def dkwX2_freeHook_1 : List UInt8 := [132, 1, 1, 167, 255, 233, 2, 172]
abbrev dktX2_freeHook_1 : List UInt8 := dkwX2_freeHook_1 ++ []
def dkwX2_freeHook_0 : List UInt8 := [3, 60, 27, 42, 180, 0, 9, 162, 0, 21, 42, 180, 0, 46, 27, 46, 2, 160, 0, 5, 27, 172]
abbrev dktX2_freeHook_0 : List UInt8 := dkwX2_freeHook_0 ++ dktX2_freeHook_1
theorem dksX2_freeHook_0 : cX2_freeHook.data.toList.drop 0 = dktX2_freeHook_0 := by decide +kernel
theorem dksX2_freeHook_1 : cX2_freeHook.data.toList.drop 22 = dktX2_freeHook_1 := dk_seg dksX2_freeHook_0 22 rfl rfl
theorem dX2_freeHook_0 : decode cX2_freeHook 0 = .ok (.iconst 0, 1) := dk_3 (dk_at dksX2_freeHook_0 0 rfl rfl)
theorem dX2_freeHook_1 : decode cX2_freeHook 1 = .ok (.istore_n 1, 1) := dk_60 (dk_at dksX2_freeHook_0 1 rfl rfl)
theorem dX2_freeHook_2 : decode cX2_freeHook 2 = .ok (.iload_n 1, 1) := dk_27 (dk_at dksX2_freeHook_0 2 rfl rfl)
theorem dX2_freeHook_3 : decode cX2_freeHook 3 = .ok (.aload_n 0, 1) := dk_42 (dk_at dksX2_freeHook_0 3 rfl rfl)
theorem dX2_freeHook_4 : decode cX2_freeHook 4 = .ok (.getfield 9, 3) := dk_180 0 9 (dk_at dksX2_freeHook_0 4 rfl rfl)
theorem dX2_freeHook_7 : decode cX2_freeHook 7 = .ok (.if_icmp .ge 21, 3) := dk_162 0 21 (dk_at dksX2_freeHook_0 7 rfl rfl)
theorem dX2_freeHook_10 : decode cX2_freeHook 10 = .ok (.aload_n 0, 1) := dk_42 (dk_at dksX2_freeHook_0 10 rfl rfl)
theorem dX2_freeHook_11 : decode cX2_freeHook 11 = .ok (.getfield 46, 3) := dk_180 0 46 (dk_at dksX2_freeHook_0 11 rfl rfl)
theorem dX2_freeHook_14 : decode cX2_freeHook 14 = .ok (.iload_n 1, 1) := dk_27 (dk_at dksX2_freeHook_0 14 rfl rfl)
theorem dX2_freeHook_15 : decode cX2_freeHook 15 = .ok (.iaload, 1) := dk_46 (dk_at dksX2_freeHook_0 15 rfl rfl)
theorem dX2_freeHook_16 : decode cX2_freeHook 16 = .ok (.iconst (-1), 1) := dk_2 (dk_at dksX2_freeHook_0 16 rfl rfl)
theorem dX2_freeHook_17 : decode cX2_freeHook 17 = .ok (.if_icmp .ne 5, 3) := dk_160 0 5 (dk_at dksX2_freeHook_0 17 rfl rfl)
theorem dX2_freeHook_20 : decode cX2_freeHook 20 = .ok (.iload_n 1, 1) := dk_27 (dk_at dksX2_freeHook_0 20 rfl rfl)
theorem dX2_freeHook_21 : decode cX2_freeHook 21 = .ok (.ireturn, 1) := dk_172 (dk_at dksX2_freeHook_0 21 rfl rfl)
theorem dX2_freeHook_22 : decode cX2_freeHook 22 = .ok (.iinc 1 1, 3) := dk_132 1 1 (dk_at dksX2_freeHook_1 0 rfl rfl)
theorem dX2_freeHook_25 : decode cX2_freeHook 25 = .ok (.goto (-23), 3) := dk_167 255 233 (dk_at dksX2_freeHook_1 3 rfl rfl)
theorem dX2_freeHook_28 : decode cX2_freeHook 28 = .ok (.iconst (-1), 1) := dk_2 (dk_at dksX2_freeHook_1 6 rfl rfl)
theorem dX2_freeHook_29 : decode cX2_freeHook 29 = .ok (.ireturn, 1) := dk_172 (dk_at dksX2_freeHook_1 7 rfl rfl)
abbrev cX2_faceOf : ByteArray := prog_18_method_12_code
def yX2_faceOf : MethodName := ⟨RX2, "faceOf", "(I)I"⟩
def dkwX2_faceOf_1 : List UInt8 := [46, 2, 159, 0, 17, 42, 180, 0, 46, 42, 180, 0, 28, 27, 46, 46, 167, 0, 4, 2, 172]
abbrev dktX2_faceOf_1 : List UInt8 := dkwX2_faceOf_1 ++ []
def dkwX2_faceOf_0 : List UInt8 := [42, 180, 0, 25, 27, 46, 2, 159, 0, 12, 42, 180, 0, 25, 27, 46, 167, 0, 28, 42, 180, 0, 28, 27]
abbrev dktX2_faceOf_0 : List UInt8 := dkwX2_faceOf_0 ++ dktX2_faceOf_1
theorem dksX2_faceOf_0 : cX2_faceOf.data.toList.drop 0 = dktX2_faceOf_0 := by decide +kernel
theorem dksX2_faceOf_1 : cX2_faceOf.data.toList.drop 24 = dktX2_faceOf_1 := dk_seg dksX2_faceOf_0 24 rfl rfl
theorem dX2_faceOf_0 : decode cX2_faceOf 0 = .ok (.aload_n 0, 1) := dk_42 (dk_at dksX2_faceOf_0 0 rfl rfl)
theorem dX2_faceOf_1 : decode cX2_faceOf 1 = .ok (.getfield 25, 3) := dk_180 0 25 (dk_at dksX2_faceOf_0 1 rfl rfl)
theorem dX2_faceOf_4 : decode cX2_faceOf 4 = .ok (.iload_n 1, 1) := dk_27 (dk_at dksX2_faceOf_0 4 rfl rfl)
theorem dX2_faceOf_5 : decode cX2_faceOf 5 = .ok (.iaload, 1) := dk_46 (dk_at dksX2_faceOf_0 5 rfl rfl)
theorem dX2_faceOf_6 : decode cX2_faceOf 6 = .ok (.iconst (-1), 1) := dk_2 (dk_at dksX2_faceOf_0 6 rfl rfl)
theorem dX2_faceOf_7 : decode cX2_faceOf 7 = .ok (.if_icmp .eq 12, 3) := dk_159 0 12 (dk_at dksX2_faceOf_0 7 rfl rfl)
theorem dX2_faceOf_10 : decode cX2_faceOf 10 = .ok (.aload_n 0, 1) := dk_42 (dk_at dksX2_faceOf_0 10 rfl rfl)
theorem dX2_faceOf_11 : decode cX2_faceOf 11 = .ok (.getfield 25, 3) := dk_180 0 25 (dk_at dksX2_faceOf_0 11 rfl rfl)
theorem dX2_faceOf_14 : decode cX2_faceOf 14 = .ok (.iload_n 1, 1) := dk_27 (dk_at dksX2_faceOf_0 14 rfl rfl)
theorem dX2_faceOf_15 : decode cX2_faceOf 15 = .ok (.iaload, 1) := dk_46 (dk_at dksX2_faceOf_0 15 rfl rfl)
theorem dX2_faceOf_16 : decode cX2_faceOf 16 = .ok (.goto 28, 3) := dk_167 0 28 (dk_at dksX2_faceOf_0 16 rfl rfl)
theorem dX2_faceOf_19 : decode cX2_faceOf 19 = .ok (.aload_n 0, 1) := dk_42 (dk_at dksX2_faceOf_0 19 rfl rfl)
theorem dX2_faceOf_20 : decode cX2_faceOf 20 = .ok (.getfield 28, 3) := dk_180 0 28 (dk_at dksX2_faceOf_0 20 rfl rfl)
theorem dX2_faceOf_23 : decode cX2_faceOf 23 = .ok (.iload_n 1, 1) := dk_27 (dk_at dksX2_faceOf_0 23 rfl rfl)
theorem dX2_faceOf_24 : decode cX2_faceOf 24 = .ok (.iaload, 1) := dk_46 (dk_at dksX2_faceOf_1 0 rfl rfl)
theorem dX2_faceOf_25 : decode cX2_faceOf 25 = .ok (.iconst (-1), 1) := dk_2 (dk_at dksX2_faceOf_1 1 rfl rfl)
theorem dX2_faceOf_26 : decode cX2_faceOf 26 = .ok (.if_icmp .eq 17, 3) := dk_159 0 17 (dk_at dksX2_faceOf_1 2 rfl rfl)
theorem dX2_faceOf_29 : decode cX2_faceOf 29 = .ok (.aload_n 0, 1) := dk_42 (dk_at dksX2_faceOf_1 5 rfl rfl)
theorem dX2_faceOf_30 : decode cX2_faceOf 30 = .ok (.getfield 46, 3) := dk_180 0 46 (dk_at dksX2_faceOf_1 6 rfl rfl)
theorem dX2_faceOf_33 : decode cX2_faceOf 33 = .ok (.aload_n 0, 1) := dk_42 (dk_at dksX2_faceOf_1 9 rfl rfl)
theorem dX2_faceOf_34 : decode cX2_faceOf 34 = .ok (.getfield 28, 3) := dk_180 0 28 (dk_at dksX2_faceOf_1 10 rfl rfl)
theorem dX2_faceOf_37 : decode cX2_faceOf 37 = .ok (.iload_n 1, 1) := dk_27 (dk_at dksX2_faceOf_1 13 rfl rfl)
theorem dX2_faceOf_38 : decode cX2_faceOf 38 = .ok (.iaload, 1) := dk_46 (dk_at dksX2_faceOf_1 14 rfl rfl)
theorem dX2_faceOf_39 : decode cX2_faceOf 39 = .ok (.iaload, 1) := dk_46 (dk_at dksX2_faceOf_1 15 rfl rfl)
theorem dX2_faceOf_40 : decode cX2_faceOf 40 = .ok (.goto 4, 3) := dk_167 0 4 (dk_at dksX2_faceOf_1 16 rfl rfl)
theorem dX2_faceOf_43 : decode cX2_faceOf 43 = .ok (.iconst (-1), 1) := dk_2 (dk_at dksX2_faceOf_1 19 rfl rfl)
theorem dX2_faceOf_44 : decode cX2_faceOf 44 = .ok (.ireturn, 1) := dk_172 (dk_at dksX2_faceOf_1 20 rfl rfl)
abbrev cX2_draw : ByteArray := prog_18_method_4_code
def yX2_draw : MethodName := ⟨RX2, "draw", "(I)I"⟩
def dkwX2_draw_1 : List UInt8 := [17, 127, 255, 126, 27, 112, 172]
abbrev dktX2_draw_1 : List UInt8 := dkwX2_draw_1 ++ []
def dkwX2_draw_0 : List UInt8 := [42, 18, 90, 42, 180, 0, 15, 104, 17, 48, 57, 96, 181, 0, 15, 42, 180, 0, 15, 16, 16, 124]
abbrev dktX2_draw_0 : List UInt8 := dkwX2_draw_0 ++ dktX2_draw_1
theorem dksX2_draw_0 : cX2_draw.data.toList.drop 0 = dktX2_draw_0 := by decide +kernel
theorem dksX2_draw_1 : cX2_draw.data.toList.drop 22 = dktX2_draw_1 := dk_seg dksX2_draw_0 22 rfl rfl
theorem dX2_draw_0 : decode cX2_draw 0 = .ok (.aload_n 0, 1) := dk_42 (dk_at dksX2_draw_0 0 rfl rfl)
theorem dX2_draw_1 : decode cX2_draw 1 = .ok (.ldc 90, 2) := dk_18 90 (dk_at dksX2_draw_0 1 rfl rfl)
theorem dX2_draw_3 : decode cX2_draw 3 = .ok (.aload_n 0, 1) := dk_42 (dk_at dksX2_draw_0 3 rfl rfl)
theorem dX2_draw_4 : decode cX2_draw 4 = .ok (.getfield 15, 3) := dk_180 0 15 (dk_at dksX2_draw_0 4 rfl rfl)
theorem dX2_draw_7 : decode cX2_draw 7 = .ok (.imul, 1) := dk_104 (dk_at dksX2_draw_0 7 rfl rfl)
theorem dX2_draw_8 : decode cX2_draw 8 = .ok (.sipush 12345, 3) := dk_17 48 57 (dk_at dksX2_draw_0 8 rfl rfl)
theorem dX2_draw_11 : decode cX2_draw 11 = .ok (.iadd, 1) := dk_96 (dk_at dksX2_draw_0 11 rfl rfl)
theorem dX2_draw_12 : decode cX2_draw 12 = .ok (.putfield 15, 3) := dk_181 0 15 (dk_at dksX2_draw_0 12 rfl rfl)
theorem dX2_draw_15 : decode cX2_draw 15 = .ok (.aload_n 0, 1) := dk_42 (dk_at dksX2_draw_0 15 rfl rfl)
theorem dX2_draw_16 : decode cX2_draw 16 = .ok (.getfield 15, 3) := dk_180 0 15 (dk_at dksX2_draw_0 16 rfl rfl)
theorem dX2_draw_19 : decode cX2_draw 19 = .ok (.bipush 16, 2) := dk_16 16 (dk_at dksX2_draw_0 19 rfl rfl)
theorem dX2_draw_21 : decode cX2_draw 21 = .ok (.iushr, 1) := dk_124 (dk_at dksX2_draw_0 21 rfl rfl)
theorem dX2_draw_22 : decode cX2_draw 22 = .ok (.sipush 32767, 3) := dk_17 127 255 (dk_at dksX2_draw_1 0 rfl rfl)
theorem dX2_draw_25 : decode cX2_draw 25 = .ok (.iand, 1) := dk_126 (dk_at dksX2_draw_1 3 rfl rfl)
theorem dX2_draw_26 : decode cX2_draw 26 = .ok (.iload_n 1, 1) := dk_27 (dk_at dksX2_draw_1 4 rfl rfl)
theorem dX2_draw_27 : decode cX2_draw 27 = .ok (.irem, 1) := dk_112 (dk_at dksX2_draw_1 5 rfl rfl)
theorem dX2_draw_28 : decode cX2_draw 28 = .ok (.ireturn, 1) := dk_172 (dk_at dksX2_draw_1 6 rfl rfl)
abbrev cX2_all : ByteArray := prog_18_method_5_code
def yX2_all : MethodName := ⟨RX2, "all", "()I"⟩
def dkwX2_all_0 : List UInt8 := [4, 42, 180, 0, 61, 120, 4, 100, 172]
abbrev dktX2_all_0 : List UInt8 := dkwX2_all_0 ++ []
theorem dksX2_all_0 : cX2_all.data.toList.drop 0 = dktX2_all_0 := by decide +kernel
theorem dX2_all_0 : decode cX2_all 0 = .ok (.iconst 1, 1) := dk_4 (dk_at dksX2_all_0 0 rfl rfl)
theorem dX2_all_1 : decode cX2_all 1 = .ok (.aload_n 0, 1) := dk_42 (dk_at dksX2_all_0 1 rfl rfl)
theorem dX2_all_2 : decode cX2_all 2 = .ok (.getfield 61, 3) := dk_180 0 61 (dk_at dksX2_all_0 2 rfl rfl)
theorem dX2_all_5 : decode cX2_all 5 = .ok (.ishl, 1) := dk_120 (dk_at dksX2_all_0 5 rfl rfl)
theorem dX2_all_6 : decode cX2_all 6 = .ok (.iconst 1, 1) := dk_4 (dk_at dksX2_all_0 6 rfl rfl)
theorem dX2_all_7 : decode cX2_all 7 = .ok (.isub, 1) := dk_100 (dk_at dksX2_all_0 7 rfl rfl)
theorem dX2_all_8 : decode cX2_all 8 = .ok (.ireturn, 1) := dk_172 (dk_at dksX2_all_0 8 rfl rfl)
abbrev cX2_place : ByteArray := prog_18_method_21_code
def yX2_place : MethodName := ⟨RX2, "place", "(II)I"⟩
def dkwX2_place_1 : List UInt8 := [172]
abbrev dktX2_place_1 : List UInt8 := dkwX2_place_1 ++ []
def dkwX2_place_0 : List UInt8 := [3, 62, 42, 180, 0, 40, 16, 10, 27, 104, 29, 96, 46, 28, 159, 0, 9, 132, 3, 1, 167, 255, 238, 29]
abbrev dktX2_place_0 : List UInt8 := dkwX2_place_0 ++ dktX2_place_1
theorem dksX2_place_0 : cX2_place.data.toList.drop 0 = dktX2_place_0 := by decide +kernel
theorem dksX2_place_1 : cX2_place.data.toList.drop 24 = dktX2_place_1 := dk_seg dksX2_place_0 24 rfl rfl
theorem dX2_place_0 : decode cX2_place 0 = .ok (.iconst 0, 1) := dk_3 (dk_at dksX2_place_0 0 rfl rfl)
theorem dX2_place_1 : decode cX2_place 1 = .ok (.istore_n 3, 1) := dk_62 (dk_at dksX2_place_0 1 rfl rfl)
theorem dX2_place_2 : decode cX2_place 2 = .ok (.aload_n 0, 1) := dk_42 (dk_at dksX2_place_0 2 rfl rfl)
theorem dX2_place_3 : decode cX2_place 3 = .ok (.getfield 40, 3) := dk_180 0 40 (dk_at dksX2_place_0 3 rfl rfl)
theorem dX2_place_6 : decode cX2_place 6 = .ok (.bipush 10, 2) := dk_16 10 (dk_at dksX2_place_0 6 rfl rfl)
theorem dX2_place_8 : decode cX2_place 8 = .ok (.iload_n 1, 1) := dk_27 (dk_at dksX2_place_0 8 rfl rfl)
theorem dX2_place_9 : decode cX2_place 9 = .ok (.imul, 1) := dk_104 (dk_at dksX2_place_0 9 rfl rfl)
theorem dX2_place_10 : decode cX2_place 10 = .ok (.iload_n 3, 1) := dk_29 (dk_at dksX2_place_0 10 rfl rfl)
theorem dX2_place_11 : decode cX2_place 11 = .ok (.iadd, 1) := dk_96 (dk_at dksX2_place_0 11 rfl rfl)
theorem dX2_place_12 : decode cX2_place 12 = .ok (.iaload, 1) := dk_46 (dk_at dksX2_place_0 12 rfl rfl)
theorem dX2_place_13 : decode cX2_place 13 = .ok (.iload_n 2, 1) := dk_28 (dk_at dksX2_place_0 13 rfl rfl)
theorem dX2_place_14 : decode cX2_place 14 = .ok (.if_icmp .eq 9, 3) := dk_159 0 9 (dk_at dksX2_place_0 14 rfl rfl)
theorem dX2_place_17 : decode cX2_place 17 = .ok (.iinc 3 1, 3) := dk_132 3 1 (dk_at dksX2_place_0 17 rfl rfl)
theorem dX2_place_20 : decode cX2_place 20 = .ok (.goto (-18), 3) := dk_167 255 238 (dk_at dksX2_place_0 20 rfl rfl)
theorem dX2_place_23 : decode cX2_place 23 = .ok (.iload_n 3, 1) := dk_29 (dk_at dksX2_place_0 23 rfl rfl)
theorem dX2_place_24 : decode cX2_place 24 = .ok (.ireturn, 1) := dk_172 (dk_at dksX2_place_1 0 rfl rfl)
