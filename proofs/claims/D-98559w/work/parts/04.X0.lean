/-! decode rows of X0 -/
set_option maxRecDepth 100000
abbrev cX0_door : ByteArray := method_3_code
def yX0_door : MethodName := ⟨RX0, "door", "(LHungFaces;[J)I"⟩
def dkwX0_door_0 : List UInt8 := [43, 3, 42, 182, 0, 7, 133, 80, 167, 0, 9, 77, 4, 172, 77, 5, 172, 3, 172]
abbrev dktX0_door_0 : List UInt8 := dkwX0_door_0 ++ []
theorem dksX0_door_0 : cX0_door.data.toList.drop 0 = dktX0_door_0 := by decide +kernel
theorem dX0_door_0 : decode cX0_door 0 = .ok (.aload_n 1, 1) := dk_43 (dk_at dksX0_door_0 0 rfl rfl)
theorem dX0_door_1 : decode cX0_door 1 = .ok (.iconst 0, 1) := dk_3 (dk_at dksX0_door_0 1 rfl rfl)
theorem dX0_door_2 : decode cX0_door 2 = .ok (.aload_n 0, 1) := dk_42 (dk_at dksX0_door_0 2 rfl rfl)
theorem dX0_door_3 : decode cX0_door 3 = .ok (.invokevirtual 7, 3) := dk_182 0 7 (dk_at dksX0_door_0 3 rfl rfl)
theorem dX0_door_6 : decode cX0_door 6 = .ok (.i2l, 1) := dk_133 (dk_at dksX0_door_0 6 rfl rfl)
theorem dX0_door_7 : decode cX0_door 7 = .ok (.lastore, 1) := dk_80 (dk_at dksX0_door_0 7 rfl rfl)
theorem dX0_door_8 : decode cX0_door 8 = .ok (.goto 9, 3) := dk_167 0 9 (dk_at dksX0_door_0 8 rfl rfl)
theorem dX0_door_11 : decode cX0_door 11 = .ok (.astore_n 2, 1) := dk_77 (dk_at dksX0_door_0 11 rfl rfl)
theorem dX0_door_12 : decode cX0_door 12 = .ok (.iconst 1, 1) := dk_4 (dk_at dksX0_door_0 12 rfl rfl)
theorem dX0_door_13 : decode cX0_door 13 = .ok (.ireturn, 1) := dk_172 (dk_at dksX0_door_0 13 rfl rfl)
theorem dX0_door_14 : decode cX0_door 14 = .ok (.astore_n 2, 1) := dk_77 (dk_at dksX0_door_0 14 rfl rfl)
theorem dX0_door_15 : decode cX0_door 15 = .ok (.iconst 2, 1) := dk_5 (dk_at dksX0_door_0 15 rfl rfl)
theorem dX0_door_16 : decode cX0_door 16 = .ok (.ireturn, 1) := dk_172 (dk_at dksX0_door_0 16 rfl rfl)
theorem dX0_door_17 : decode cX0_door 17 = .ok (.iconst 0, 1) := dk_3 (dk_at dksX0_door_0 17 rfl rfl)
theorem dX0_door_18 : decode cX0_door 18 = .ok (.ireturn, 1) := dk_172 (dk_at dksX0_door_0 18 rfl rfl)
abbrev cX0_law : ByteArray := method_4_code
def yX0_law : MethodName := ⟨RX0, "law", "(LHungFaces;[J)I"⟩
def dkwX0_law_0 : List UInt8 := [43, 3, 42, 182, 0, 17, 133, 80, 167, 0, 6, 77, 4, 172, 3, 172]
abbrev dktX0_law_0 : List UInt8 := dkwX0_law_0 ++ []
theorem dksX0_law_0 : cX0_law.data.toList.drop 0 = dktX0_law_0 := by decide +kernel
theorem dX0_law_0 : decode cX0_law 0 = .ok (.aload_n 1, 1) := dk_43 (dk_at dksX0_law_0 0 rfl rfl)
theorem dX0_law_1 : decode cX0_law 1 = .ok (.iconst 0, 1) := dk_3 (dk_at dksX0_law_0 1 rfl rfl)
theorem dX0_law_2 : decode cX0_law 2 = .ok (.aload_n 0, 1) := dk_42 (dk_at dksX0_law_0 2 rfl rfl)
theorem dX0_law_3 : decode cX0_law 3 = .ok (.invokevirtual 17, 3) := dk_182 0 17 (dk_at dksX0_law_0 3 rfl rfl)
theorem dX0_law_6 : decode cX0_law 6 = .ok (.i2l, 1) := dk_133 (dk_at dksX0_law_0 6 rfl rfl)
theorem dX0_law_7 : decode cX0_law 7 = .ok (.lastore, 1) := dk_80 (dk_at dksX0_law_0 7 rfl rfl)
theorem dX0_law_8 : decode cX0_law 8 = .ok (.goto 6, 3) := dk_167 0 6 (dk_at dksX0_law_0 8 rfl rfl)
theorem dX0_law_11 : decode cX0_law 11 = .ok (.astore_n 2, 1) := dk_77 (dk_at dksX0_law_0 11 rfl rfl)
theorem dX0_law_12 : decode cX0_law 12 = .ok (.iconst 1, 1) := dk_4 (dk_at dksX0_law_0 12 rfl rfl)
theorem dX0_law_13 : decode cX0_law 13 = .ok (.ireturn, 1) := dk_172 (dk_at dksX0_law_0 13 rfl rfl)
theorem dX0_law_14 : decode cX0_law 14 = .ok (.iconst 0, 1) := dk_3 (dk_at dksX0_law_0 14 rfl rfl)
theorem dX0_law_15 : decode cX0_law 15 = .ok (.ireturn, 1) := dk_172 (dk_at dksX0_law_0 15 rfl rfl)
abbrev cX0_person : ByteArray := method_5_code
def yX0_person : MethodName := ⟨RX0, "person", "(LHungFaces;II[J)I"⟩
def dkwX0_person_0 : List UInt8 := [45, 3, 42, 27, 28, 182, 0, 20, 133, 80, 167, 0, 11, 58, 4, 4, 172, 58, 4, 5, 172, 3, 172]
abbrev dktX0_person_0 : List UInt8 := dkwX0_person_0 ++ []
theorem dksX0_person_0 : cX0_person.data.toList.drop 0 = dktX0_person_0 := by decide +kernel
theorem dX0_person_0 : decode cX0_person 0 = .ok (.aload_n 3, 1) := dk_45 (dk_at dksX0_person_0 0 rfl rfl)
theorem dX0_person_1 : decode cX0_person 1 = .ok (.iconst 0, 1) := dk_3 (dk_at dksX0_person_0 1 rfl rfl)
theorem dX0_person_2 : decode cX0_person 2 = .ok (.aload_n 0, 1) := dk_42 (dk_at dksX0_person_0 2 rfl rfl)
theorem dX0_person_3 : decode cX0_person 3 = .ok (.iload_n 1, 1) := dk_27 (dk_at dksX0_person_0 3 rfl rfl)
theorem dX0_person_4 : decode cX0_person 4 = .ok (.iload_n 2, 1) := dk_28 (dk_at dksX0_person_0 4 rfl rfl)
theorem dX0_person_5 : decode cX0_person 5 = .ok (.invokevirtual 20, 3) := dk_182 0 20 (dk_at dksX0_person_0 5 rfl rfl)
theorem dX0_person_8 : decode cX0_person 8 = .ok (.i2l, 1) := dk_133 (dk_at dksX0_person_0 8 rfl rfl)
theorem dX0_person_9 : decode cX0_person 9 = .ok (.lastore, 1) := dk_80 (dk_at dksX0_person_0 9 rfl rfl)
theorem dX0_person_10 : decode cX0_person 10 = .ok (.goto 11, 3) := dk_167 0 11 (dk_at dksX0_person_0 10 rfl rfl)
theorem dX0_person_13 : decode cX0_person 13 = .ok (.astore 4, 2) := dk_58 4 (dk_at dksX0_person_0 13 rfl rfl)
theorem dX0_person_15 : decode cX0_person 15 = .ok (.iconst 1, 1) := dk_4 (dk_at dksX0_person_0 15 rfl rfl)
theorem dX0_person_16 : decode cX0_person 16 = .ok (.ireturn, 1) := dk_172 (dk_at dksX0_person_0 16 rfl rfl)
theorem dX0_person_17 : decode cX0_person 17 = .ok (.astore 4, 2) := dk_58 4 (dk_at dksX0_person_0 17 rfl rfl)
theorem dX0_person_19 : decode cX0_person 19 = .ok (.iconst 2, 1) := dk_5 (dk_at dksX0_person_0 19 rfl rfl)
theorem dX0_person_20 : decode cX0_person 20 = .ok (.ireturn, 1) := dk_172 (dk_at dksX0_person_0 20 rfl rfl)
theorem dX0_person_21 : decode cX0_person 21 = .ok (.iconst 0, 1) := dk_3 (dk_at dksX0_person_0 21 rfl rfl)
theorem dX0_person_22 : decode cX0_person 22 = .ok (.ireturn, 1) := dk_172 (dk_at dksX0_person_0 22 rfl rfl)
abbrev cX0_face : ByteArray := method_6_code
def yX0_face : MethodName := ⟨RX0, "face", "(LHungFaces;II[J)I"⟩
def dkwX0_face_0 : List UInt8 := [45, 3, 42, 27, 28, 182, 0, 28, 133, 80, 167, 0, 11, 58, 4, 4, 172, 58, 4, 5, 172, 3, 172]
abbrev dktX0_face_0 : List UInt8 := dkwX0_face_0 ++ []
theorem dksX0_face_0 : cX0_face.data.toList.drop 0 = dktX0_face_0 := by decide +kernel
theorem dX0_face_0 : decode cX0_face 0 = .ok (.aload_n 3, 1) := dk_45 (dk_at dksX0_face_0 0 rfl rfl)
theorem dX0_face_1 : decode cX0_face 1 = .ok (.iconst 0, 1) := dk_3 (dk_at dksX0_face_0 1 rfl rfl)
theorem dX0_face_2 : decode cX0_face 2 = .ok (.aload_n 0, 1) := dk_42 (dk_at dksX0_face_0 2 rfl rfl)
theorem dX0_face_3 : decode cX0_face 3 = .ok (.iload_n 1, 1) := dk_27 (dk_at dksX0_face_0 3 rfl rfl)
theorem dX0_face_4 : decode cX0_face 4 = .ok (.iload_n 2, 1) := dk_28 (dk_at dksX0_face_0 4 rfl rfl)
theorem dX0_face_5 : decode cX0_face 5 = .ok (.invokevirtual 28, 3) := dk_182 0 28 (dk_at dksX0_face_0 5 rfl rfl)
theorem dX0_face_8 : decode cX0_face 8 = .ok (.i2l, 1) := dk_133 (dk_at dksX0_face_0 8 rfl rfl)
theorem dX0_face_9 : decode cX0_face 9 = .ok (.lastore, 1) := dk_80 (dk_at dksX0_face_0 9 rfl rfl)
theorem dX0_face_10 : decode cX0_face 10 = .ok (.goto 11, 3) := dk_167 0 11 (dk_at dksX0_face_0 10 rfl rfl)
theorem dX0_face_13 : decode cX0_face 13 = .ok (.astore 4, 2) := dk_58 4 (dk_at dksX0_face_0 13 rfl rfl)
theorem dX0_face_15 : decode cX0_face 15 = .ok (.iconst 1, 1) := dk_4 (dk_at dksX0_face_0 15 rfl rfl)
theorem dX0_face_16 : decode cX0_face 16 = .ok (.ireturn, 1) := dk_172 (dk_at dksX0_face_0 16 rfl rfl)
theorem dX0_face_17 : decode cX0_face 17 = .ok (.astore 4, 2) := dk_58 4 (dk_at dksX0_face_0 17 rfl rfl)
theorem dX0_face_19 : decode cX0_face 19 = .ok (.iconst 2, 1) := dk_5 (dk_at dksX0_face_0 19 rfl rfl)
theorem dX0_face_20 : decode cX0_face 20 = .ok (.ireturn, 1) := dk_172 (dk_at dksX0_face_0 20 rfl rfl)
theorem dX0_face_21 : decode cX0_face 21 = .ok (.iconst 0, 1) := dk_3 (dk_at dksX0_face_0 21 rfl rfl)
theorem dX0_face_22 : decode cX0_face 22 = .ok (.ireturn, 1) := dk_172 (dk_at dksX0_face_0 22 rfl rfl)
abbrev cX0_hook : ByteArray := method_7_code
def yX0_hook : MethodName := ⟨RX0, "hook", "(LHungFaces;I[J)I"⟩
def dkwX0_hook_0 : List UInt8 := [44, 3, 42, 27, 182, 0, 31, 133, 80, 167, 0, 6, 78, 4, 172, 3, 172]
abbrev dktX0_hook_0 : List UInt8 := dkwX0_hook_0 ++ []
theorem dksX0_hook_0 : cX0_hook.data.toList.drop 0 = dktX0_hook_0 := by decide +kernel
theorem dX0_hook_0 : decode cX0_hook 0 = .ok (.aload_n 2, 1) := dk_44 (dk_at dksX0_hook_0 0 rfl rfl)
theorem dX0_hook_1 : decode cX0_hook 1 = .ok (.iconst 0, 1) := dk_3 (dk_at dksX0_hook_0 1 rfl rfl)
theorem dX0_hook_2 : decode cX0_hook 2 = .ok (.aload_n 0, 1) := dk_42 (dk_at dksX0_hook_0 2 rfl rfl)
theorem dX0_hook_3 : decode cX0_hook 3 = .ok (.iload_n 1, 1) := dk_27 (dk_at dksX0_hook_0 3 rfl rfl)
theorem dX0_hook_4 : decode cX0_hook 4 = .ok (.invokevirtual 31, 3) := dk_182 0 31 (dk_at dksX0_hook_0 4 rfl rfl)
theorem dX0_hook_7 : decode cX0_hook 7 = .ok (.i2l, 1) := dk_133 (dk_at dksX0_hook_0 7 rfl rfl)
theorem dX0_hook_8 : decode cX0_hook 8 = .ok (.lastore, 1) := dk_80 (dk_at dksX0_hook_0 8 rfl rfl)
theorem dX0_hook_9 : decode cX0_hook 9 = .ok (.goto 6, 3) := dk_167 0 6 (dk_at dksX0_hook_0 9 rfl rfl)
theorem dX0_hook_12 : decode cX0_hook 12 = .ok (.astore_n 3, 1) := dk_78 (dk_at dksX0_hook_0 12 rfl rfl)
theorem dX0_hook_13 : decode cX0_hook 13 = .ok (.iconst 1, 1) := dk_4 (dk_at dksX0_hook_0 13 rfl rfl)
theorem dX0_hook_14 : decode cX0_hook 14 = .ok (.ireturn, 1) := dk_172 (dk_at dksX0_hook_0 14 rfl rfl)
theorem dX0_hook_15 : decode cX0_hook 15 = .ok (.iconst 0, 1) := dk_3 (dk_at dksX0_hook_0 15 rfl rfl)
theorem dX0_hook_16 : decode cX0_hook 16 = .ok (.ireturn, 1) := dk_172 (dk_at dksX0_hook_0 16 rfl rfl)
abbrev cX0_wish : ByteArray := method_8_code
def yX0_wish : MethodName := ⟨RX0, "wish", "(LHungFaces;II[J)I"⟩
def dkwX0_wish_0 : List UInt8 := [45, 3, 42, 27, 28, 182, 0, 35, 133, 80, 167, 0, 7, 58, 4, 4, 172, 3, 172]
abbrev dktX0_wish_0 : List UInt8 := dkwX0_wish_0 ++ []
theorem dksX0_wish_0 : cX0_wish.data.toList.drop 0 = dktX0_wish_0 := by decide +kernel
theorem dX0_wish_0 : decode cX0_wish 0 = .ok (.aload_n 3, 1) := dk_45 (dk_at dksX0_wish_0 0 rfl rfl)
theorem dX0_wish_1 : decode cX0_wish 1 = .ok (.iconst 0, 1) := dk_3 (dk_at dksX0_wish_0 1 rfl rfl)
theorem dX0_wish_2 : decode cX0_wish 2 = .ok (.aload_n 0, 1) := dk_42 (dk_at dksX0_wish_0 2 rfl rfl)
theorem dX0_wish_3 : decode cX0_wish 3 = .ok (.iload_n 1, 1) := dk_27 (dk_at dksX0_wish_0 3 rfl rfl)
theorem dX0_wish_4 : decode cX0_wish 4 = .ok (.iload_n 2, 1) := dk_28 (dk_at dksX0_wish_0 4 rfl rfl)
theorem dX0_wish_5 : decode cX0_wish 5 = .ok (.invokevirtual 35, 3) := dk_182 0 35 (dk_at dksX0_wish_0 5 rfl rfl)
theorem dX0_wish_8 : decode cX0_wish 8 = .ok (.i2l, 1) := dk_133 (dk_at dksX0_wish_0 8 rfl rfl)
theorem dX0_wish_9 : decode cX0_wish 9 = .ok (.lastore, 1) := dk_80 (dk_at dksX0_wish_0 9 rfl rfl)
theorem dX0_wish_10 : decode cX0_wish 10 = .ok (.goto 7, 3) := dk_167 0 7 (dk_at dksX0_wish_0 10 rfl rfl)
theorem dX0_wish_13 : decode cX0_wish 13 = .ok (.astore 4, 2) := dk_58 4 (dk_at dksX0_wish_0 13 rfl rfl)
theorem dX0_wish_15 : decode cX0_wish 15 = .ok (.iconst 1, 1) := dk_4 (dk_at dksX0_wish_0 15 rfl rfl)
theorem dX0_wish_16 : decode cX0_wish 16 = .ok (.ireturn, 1) := dk_172 (dk_at dksX0_wish_0 16 rfl rfl)
theorem dX0_wish_17 : decode cX0_wish 17 = .ok (.iconst 0, 1) := dk_3 (dk_at dksX0_wish_0 17 rfl rfl)
theorem dX0_wish_18 : decode cX0_wish 18 = .ok (.ireturn, 1) := dk_172 (dk_at dksX0_wish_0 18 rfl rfl)
abbrev cX0_thinks : ByteArray := method_9_code
def yX0_thinks : MethodName := ⟨RX0, "thinks", "(LHungFaces;II[J)I"⟩
def dkwX0_thinks_0 : List UInt8 := [45, 3, 42, 27, 28, 182, 0, 38, 133, 80, 167, 0, 11, 58, 4, 4, 172, 58, 4, 5, 172, 3, 172]
abbrev dktX0_thinks_0 : List UInt8 := dkwX0_thinks_0 ++ []
theorem dksX0_thinks_0 : cX0_thinks.data.toList.drop 0 = dktX0_thinks_0 := by decide +kernel
theorem dX0_thinks_0 : decode cX0_thinks 0 = .ok (.aload_n 3, 1) := dk_45 (dk_at dksX0_thinks_0 0 rfl rfl)
theorem dX0_thinks_1 : decode cX0_thinks 1 = .ok (.iconst 0, 1) := dk_3 (dk_at dksX0_thinks_0 1 rfl rfl)
theorem dX0_thinks_2 : decode cX0_thinks 2 = .ok (.aload_n 0, 1) := dk_42 (dk_at dksX0_thinks_0 2 rfl rfl)
theorem dX0_thinks_3 : decode cX0_thinks 3 = .ok (.iload_n 1, 1) := dk_27 (dk_at dksX0_thinks_0 3 rfl rfl)
theorem dX0_thinks_4 : decode cX0_thinks 4 = .ok (.iload_n 2, 1) := dk_28 (dk_at dksX0_thinks_0 4 rfl rfl)
theorem dX0_thinks_5 : decode cX0_thinks 5 = .ok (.invokevirtual 38, 3) := dk_182 0 38 (dk_at dksX0_thinks_0 5 rfl rfl)
theorem dX0_thinks_8 : decode cX0_thinks 8 = .ok (.i2l, 1) := dk_133 (dk_at dksX0_thinks_0 8 rfl rfl)
theorem dX0_thinks_9 : decode cX0_thinks 9 = .ok (.lastore, 1) := dk_80 (dk_at dksX0_thinks_0 9 rfl rfl)
theorem dX0_thinks_10 : decode cX0_thinks 10 = .ok (.goto 11, 3) := dk_167 0 11 (dk_at dksX0_thinks_0 10 rfl rfl)
theorem dX0_thinks_13 : decode cX0_thinks 13 = .ok (.astore 4, 2) := dk_58 4 (dk_at dksX0_thinks_0 13 rfl rfl)
theorem dX0_thinks_15 : decode cX0_thinks 15 = .ok (.iconst 1, 1) := dk_4 (dk_at dksX0_thinks_0 15 rfl rfl)
theorem dX0_thinks_16 : decode cX0_thinks 16 = .ok (.ireturn, 1) := dk_172 (dk_at dksX0_thinks_0 16 rfl rfl)
theorem dX0_thinks_17 : decode cX0_thinks 17 = .ok (.astore 4, 2) := dk_58 4 (dk_at dksX0_thinks_0 17 rfl rfl)
theorem dX0_thinks_19 : decode cX0_thinks 19 = .ok (.iconst 2, 1) := dk_5 (dk_at dksX0_thinks_0 19 rfl rfl)
theorem dX0_thinks_20 : decode cX0_thinks 20 = .ok (.ireturn, 1) := dk_172 (dk_at dksX0_thinks_0 20 rfl rfl)
theorem dX0_thinks_21 : decode cX0_thinks 21 = .ok (.iconst 0, 1) := dk_3 (dk_at dksX0_thinks_0 21 rfl rfl)
theorem dX0_thinks_22 : decode cX0_thinks 22 = .ok (.ireturn, 1) := dk_172 (dk_at dksX0_thinks_0 22 rfl rfl)
abbrev cX0_hand : ByteArray := method_10_code
def yX0_hand : MethodName := ⟨RX0, "hand", "(LHungFaces;II[J)I"⟩
def dkwX0_hand_0 : List UInt8 := [45, 3, 42, 27, 28, 182, 0, 41, 133, 80, 167, 0, 11, 58, 4, 4, 172, 58, 4, 5, 172, 3, 172]
abbrev dktX0_hand_0 : List UInt8 := dkwX0_hand_0 ++ []
theorem dksX0_hand_0 : cX0_hand.data.toList.drop 0 = dktX0_hand_0 := by decide +kernel
theorem dX0_hand_0 : decode cX0_hand 0 = .ok (.aload_n 3, 1) := dk_45 (dk_at dksX0_hand_0 0 rfl rfl)
theorem dX0_hand_1 : decode cX0_hand 1 = .ok (.iconst 0, 1) := dk_3 (dk_at dksX0_hand_0 1 rfl rfl)
theorem dX0_hand_2 : decode cX0_hand 2 = .ok (.aload_n 0, 1) := dk_42 (dk_at dksX0_hand_0 2 rfl rfl)
theorem dX0_hand_3 : decode cX0_hand 3 = .ok (.iload_n 1, 1) := dk_27 (dk_at dksX0_hand_0 3 rfl rfl)
theorem dX0_hand_4 : decode cX0_hand 4 = .ok (.iload_n 2, 1) := dk_28 (dk_at dksX0_hand_0 4 rfl rfl)
theorem dX0_hand_5 : decode cX0_hand 5 = .ok (.invokevirtual 41, 3) := dk_182 0 41 (dk_at dksX0_hand_0 5 rfl rfl)
theorem dX0_hand_8 : decode cX0_hand 8 = .ok (.i2l, 1) := dk_133 (dk_at dksX0_hand_0 8 rfl rfl)
theorem dX0_hand_9 : decode cX0_hand 9 = .ok (.lastore, 1) := dk_80 (dk_at dksX0_hand_0 9 rfl rfl)
theorem dX0_hand_10 : decode cX0_hand 10 = .ok (.goto 11, 3) := dk_167 0 11 (dk_at dksX0_hand_0 10 rfl rfl)
theorem dX0_hand_13 : decode cX0_hand 13 = .ok (.astore 4, 2) := dk_58 4 (dk_at dksX0_hand_0 13 rfl rfl)
theorem dX0_hand_15 : decode cX0_hand 15 = .ok (.iconst 1, 1) := dk_4 (dk_at dksX0_hand_0 15 rfl rfl)
theorem dX0_hand_16 : decode cX0_hand 16 = .ok (.ireturn, 1) := dk_172 (dk_at dksX0_hand_0 16 rfl rfl)
theorem dX0_hand_17 : decode cX0_hand 17 = .ok (.astore 4, 2) := dk_58 4 (dk_at dksX0_hand_0 17 rfl rfl)
theorem dX0_hand_19 : decode cX0_hand 19 = .ok (.iconst 2, 1) := dk_5 (dk_at dksX0_hand_0 19 rfl rfl)
theorem dX0_hand_20 : decode cX0_hand 20 = .ok (.ireturn, 1) := dk_172 (dk_at dksX0_hand_0 20 rfl rfl)
theorem dX0_hand_21 : decode cX0_hand 21 = .ok (.iconst 0, 1) := dk_3 (dk_at dksX0_hand_0 21 rfl rfl)
theorem dX0_hand_22 : decode cX0_hand 22 = .ok (.ireturn, 1) := dk_172 (dk_at dksX0_hand_0 22 rfl rfl)
abbrev cX0_fetch : ByteArray := method_11_code
def yX0_fetch : MethodName := ⟨RX0, "fetch", "(LHungFaces;I[J)I"⟩
def dkwX0_fetch_0 : List UInt8 := [44, 3, 42, 27, 182, 0, 46, 133, 80, 167, 0, 9, 78, 4, 172, 78, 5, 172, 3, 172]
abbrev dktX0_fetch_0 : List UInt8 := dkwX0_fetch_0 ++ []
theorem dksX0_fetch_0 : cX0_fetch.data.toList.drop 0 = dktX0_fetch_0 := by decide +kernel
theorem dX0_fetch_0 : decode cX0_fetch 0 = .ok (.aload_n 2, 1) := dk_44 (dk_at dksX0_fetch_0 0 rfl rfl)
theorem dX0_fetch_1 : decode cX0_fetch 1 = .ok (.iconst 0, 1) := dk_3 (dk_at dksX0_fetch_0 1 rfl rfl)
theorem dX0_fetch_2 : decode cX0_fetch 2 = .ok (.aload_n 0, 1) := dk_42 (dk_at dksX0_fetch_0 2 rfl rfl)
theorem dX0_fetch_3 : decode cX0_fetch 3 = .ok (.iload_n 1, 1) := dk_27 (dk_at dksX0_fetch_0 3 rfl rfl)
theorem dX0_fetch_4 : decode cX0_fetch 4 = .ok (.invokevirtual 46, 3) := dk_182 0 46 (dk_at dksX0_fetch_0 4 rfl rfl)
theorem dX0_fetch_7 : decode cX0_fetch 7 = .ok (.i2l, 1) := dk_133 (dk_at dksX0_fetch_0 7 rfl rfl)
theorem dX0_fetch_8 : decode cX0_fetch 8 = .ok (.lastore, 1) := dk_80 (dk_at dksX0_fetch_0 8 rfl rfl)
theorem dX0_fetch_9 : decode cX0_fetch 9 = .ok (.goto 9, 3) := dk_167 0 9 (dk_at dksX0_fetch_0 9 rfl rfl)
theorem dX0_fetch_12 : decode cX0_fetch 12 = .ok (.astore_n 3, 1) := dk_78 (dk_at dksX0_fetch_0 12 rfl rfl)
theorem dX0_fetch_13 : decode cX0_fetch 13 = .ok (.iconst 1, 1) := dk_4 (dk_at dksX0_fetch_0 13 rfl rfl)
theorem dX0_fetch_14 : decode cX0_fetch 14 = .ok (.ireturn, 1) := dk_172 (dk_at dksX0_fetch_0 14 rfl rfl)
theorem dX0_fetch_15 : decode cX0_fetch 15 = .ok (.astore_n 3, 1) := dk_78 (dk_at dksX0_fetch_0 15 rfl rfl)
theorem dX0_fetch_16 : decode cX0_fetch 16 = .ok (.iconst 2, 1) := dk_5 (dk_at dksX0_fetch_0 16 rfl rfl)
theorem dX0_fetch_17 : decode cX0_fetch 17 = .ok (.ireturn, 1) := dk_172 (dk_at dksX0_fetch_0 17 rfl rfl)
theorem dX0_fetch_18 : decode cX0_fetch 18 = .ok (.iconst 0, 1) := dk_3 (dk_at dksX0_fetch_0 18 rfl rfl)
theorem dX0_fetch_19 : decode cX0_fetch 19 = .ok (.ireturn, 1) := dk_172 (dk_at dksX0_fetch_0 19 rfl rfl)
abbrev cX0_mix : ByteArray := method_12_code
def yX0_mix : MethodName := ⟨RX0, "mix", "(LHungFaces;II[J)I"⟩
def dkwX0_mix_1 : List UInt8 := [172, 3, 172]
abbrev dktX0_mix_1 : List UInt8 := dkwX0_mix_1 ++ []
def dkwX0_mix_0 : List UInt8 := [45, 3, 42, 27, 28, 182, 0, 49, 133, 80, 167, 0, 15, 58, 4, 4, 172, 58, 4, 5, 172, 58, 4, 6]
abbrev dktX0_mix_0 : List UInt8 := dkwX0_mix_0 ++ dktX0_mix_1
theorem dksX0_mix_0 : cX0_mix.data.toList.drop 0 = dktX0_mix_0 := by decide +kernel
theorem dksX0_mix_1 : cX0_mix.data.toList.drop 24 = dktX0_mix_1 := dk_seg dksX0_mix_0 24 rfl rfl
theorem dX0_mix_0 : decode cX0_mix 0 = .ok (.aload_n 3, 1) := dk_45 (dk_at dksX0_mix_0 0 rfl rfl)
theorem dX0_mix_1 : decode cX0_mix 1 = .ok (.iconst 0, 1) := dk_3 (dk_at dksX0_mix_0 1 rfl rfl)
theorem dX0_mix_2 : decode cX0_mix 2 = .ok (.aload_n 0, 1) := dk_42 (dk_at dksX0_mix_0 2 rfl rfl)
theorem dX0_mix_3 : decode cX0_mix 3 = .ok (.iload_n 1, 1) := dk_27 (dk_at dksX0_mix_0 3 rfl rfl)
theorem dX0_mix_4 : decode cX0_mix 4 = .ok (.iload_n 2, 1) := dk_28 (dk_at dksX0_mix_0 4 rfl rfl)
theorem dX0_mix_5 : decode cX0_mix 5 = .ok (.invokevirtual 49, 3) := dk_182 0 49 (dk_at dksX0_mix_0 5 rfl rfl)
theorem dX0_mix_8 : decode cX0_mix 8 = .ok (.i2l, 1) := dk_133 (dk_at dksX0_mix_0 8 rfl rfl)
theorem dX0_mix_9 : decode cX0_mix 9 = .ok (.lastore, 1) := dk_80 (dk_at dksX0_mix_0 9 rfl rfl)
theorem dX0_mix_10 : decode cX0_mix 10 = .ok (.goto 15, 3) := dk_167 0 15 (dk_at dksX0_mix_0 10 rfl rfl)
theorem dX0_mix_13 : decode cX0_mix 13 = .ok (.astore 4, 2) := dk_58 4 (dk_at dksX0_mix_0 13 rfl rfl)
theorem dX0_mix_15 : decode cX0_mix 15 = .ok (.iconst 1, 1) := dk_4 (dk_at dksX0_mix_0 15 rfl rfl)
theorem dX0_mix_16 : decode cX0_mix 16 = .ok (.ireturn, 1) := dk_172 (dk_at dksX0_mix_0 16 rfl rfl)
theorem dX0_mix_17 : decode cX0_mix 17 = .ok (.astore 4, 2) := dk_58 4 (dk_at dksX0_mix_0 17 rfl rfl)
theorem dX0_mix_19 : decode cX0_mix 19 = .ok (.iconst 2, 1) := dk_5 (dk_at dksX0_mix_0 19 rfl rfl)
theorem dX0_mix_20 : decode cX0_mix 20 = .ok (.ireturn, 1) := dk_172 (dk_at dksX0_mix_0 20 rfl rfl)
theorem dX0_mix_21 : decode cX0_mix 21 = .ok (.astore 4, 2) := dk_58 4 (dk_at dksX0_mix_0 21 rfl rfl)
theorem dX0_mix_23 : decode cX0_mix 23 = .ok (.iconst 3, 1) := dk_6 (dk_at dksX0_mix_0 23 rfl rfl)
theorem dX0_mix_24 : decode cX0_mix 24 = .ok (.ireturn, 1) := dk_172 (dk_at dksX0_mix_1 0 rfl rfl)
theorem dX0_mix_25 : decode cX0_mix 25 = .ok (.iconst 0, 1) := dk_3 (dk_at dksX0_mix_1 1 rfl rfl)
theorem dX0_mix_26 : decode cX0_mix 26 = .ok (.ireturn, 1) := dk_172 (dk_at dksX0_mix_1 2 rfl rfl)
abbrev cX0_steal : ByteArray := method_13_code
def yX0_steal : MethodName := ⟨RX0, "steal", "(LHungFaces;II[J)I"⟩
def dkwX0_steal_0 : List UInt8 := [45, 3, 42, 27, 28, 182, 0, 52, 133, 80, 167, 0, 11, 58, 4, 4, 172, 58, 4, 5, 172, 3, 172]
abbrev dktX0_steal_0 : List UInt8 := dkwX0_steal_0 ++ []
theorem dksX0_steal_0 : cX0_steal.data.toList.drop 0 = dktX0_steal_0 := by decide +kernel
theorem dX0_steal_0 : decode cX0_steal 0 = .ok (.aload_n 3, 1) := dk_45 (dk_at dksX0_steal_0 0 rfl rfl)
theorem dX0_steal_1 : decode cX0_steal 1 = .ok (.iconst 0, 1) := dk_3 (dk_at dksX0_steal_0 1 rfl rfl)
theorem dX0_steal_2 : decode cX0_steal 2 = .ok (.aload_n 0, 1) := dk_42 (dk_at dksX0_steal_0 2 rfl rfl)
theorem dX0_steal_3 : decode cX0_steal 3 = .ok (.iload_n 1, 1) := dk_27 (dk_at dksX0_steal_0 3 rfl rfl)
theorem dX0_steal_4 : decode cX0_steal 4 = .ok (.iload_n 2, 1) := dk_28 (dk_at dksX0_steal_0 4 rfl rfl)
theorem dX0_steal_5 : decode cX0_steal 5 = .ok (.invokevirtual 52, 3) := dk_182 0 52 (dk_at dksX0_steal_0 5 rfl rfl)
theorem dX0_steal_8 : decode cX0_steal 8 = .ok (.i2l, 1) := dk_133 (dk_at dksX0_steal_0 8 rfl rfl)
theorem dX0_steal_9 : decode cX0_steal 9 = .ok (.lastore, 1) := dk_80 (dk_at dksX0_steal_0 9 rfl rfl)
theorem dX0_steal_10 : decode cX0_steal 10 = .ok (.goto 11, 3) := dk_167 0 11 (dk_at dksX0_steal_0 10 rfl rfl)
theorem dX0_steal_13 : decode cX0_steal 13 = .ok (.astore 4, 2) := dk_58 4 (dk_at dksX0_steal_0 13 rfl rfl)
theorem dX0_steal_15 : decode cX0_steal 15 = .ok (.iconst 1, 1) := dk_4 (dk_at dksX0_steal_0 15 rfl rfl)
theorem dX0_steal_16 : decode cX0_steal 16 = .ok (.ireturn, 1) := dk_172 (dk_at dksX0_steal_0 16 rfl rfl)
theorem dX0_steal_17 : decode cX0_steal 17 = .ok (.astore 4, 2) := dk_58 4 (dk_at dksX0_steal_0 17 rfl rfl)
theorem dX0_steal_19 : decode cX0_steal 19 = .ok (.iconst 2, 1) := dk_5 (dk_at dksX0_steal_0 19 rfl rfl)
theorem dX0_steal_20 : decode cX0_steal 20 = .ok (.ireturn, 1) := dk_172 (dk_at dksX0_steal_0 20 rfl rfl)
theorem dX0_steal_21 : decode cX0_steal 21 = .ok (.iconst 0, 1) := dk_3 (dk_at dksX0_steal_0 21 rfl rfl)
theorem dX0_steal_22 : decode cX0_steal 22 = .ok (.ireturn, 1) := dk_172 (dk_at dksX0_steal_0 22 rfl rfl)
abbrev cX0_change : ByteArray := method_14_code
def yX0_change : MethodName := ⟨RX0, "change", "(LHungFaces;II[J)I"⟩
def dkwX0_change_1 : List UInt8 := [172, 3, 172]
abbrev dktX0_change_1 : List UInt8 := dkwX0_change_1 ++ []
def dkwX0_change_0 : List UInt8 := [45, 3, 42, 27, 28, 182, 0, 55, 133, 80, 167, 0, 15, 58, 4, 4, 172, 58, 4, 5, 172, 58, 4, 6]
abbrev dktX0_change_0 : List UInt8 := dkwX0_change_0 ++ dktX0_change_1
theorem dksX0_change_0 : cX0_change.data.toList.drop 0 = dktX0_change_0 := by decide +kernel
theorem dksX0_change_1 : cX0_change.data.toList.drop 24 = dktX0_change_1 := dk_seg dksX0_change_0 24 rfl rfl
theorem dX0_change_0 : decode cX0_change 0 = .ok (.aload_n 3, 1) := dk_45 (dk_at dksX0_change_0 0 rfl rfl)
theorem dX0_change_1 : decode cX0_change 1 = .ok (.iconst 0, 1) := dk_3 (dk_at dksX0_change_0 1 rfl rfl)
theorem dX0_change_2 : decode cX0_change 2 = .ok (.aload_n 0, 1) := dk_42 (dk_at dksX0_change_0 2 rfl rfl)
theorem dX0_change_3 : decode cX0_change 3 = .ok (.iload_n 1, 1) := dk_27 (dk_at dksX0_change_0 3 rfl rfl)
theorem dX0_change_4 : decode cX0_change 4 = .ok (.iload_n 2, 1) := dk_28 (dk_at dksX0_change_0 4 rfl rfl)
theorem dX0_change_5 : decode cX0_change 5 = .ok (.invokevirtual 55, 3) := dk_182 0 55 (dk_at dksX0_change_0 5 rfl rfl)
theorem dX0_change_8 : decode cX0_change 8 = .ok (.i2l, 1) := dk_133 (dk_at dksX0_change_0 8 rfl rfl)
theorem dX0_change_9 : decode cX0_change 9 = .ok (.lastore, 1) := dk_80 (dk_at dksX0_change_0 9 rfl rfl)
theorem dX0_change_10 : decode cX0_change 10 = .ok (.goto 15, 3) := dk_167 0 15 (dk_at dksX0_change_0 10 rfl rfl)
theorem dX0_change_13 : decode cX0_change 13 = .ok (.astore 4, 2) := dk_58 4 (dk_at dksX0_change_0 13 rfl rfl)
theorem dX0_change_15 : decode cX0_change 15 = .ok (.iconst 1, 1) := dk_4 (dk_at dksX0_change_0 15 rfl rfl)
theorem dX0_change_16 : decode cX0_change 16 = .ok (.ireturn, 1) := dk_172 (dk_at dksX0_change_0 16 rfl rfl)
theorem dX0_change_17 : decode cX0_change 17 = .ok (.astore 4, 2) := dk_58 4 (dk_at dksX0_change_0 17 rfl rfl)
theorem dX0_change_19 : decode cX0_change 19 = .ok (.iconst 2, 1) := dk_5 (dk_at dksX0_change_0 19 rfl rfl)
theorem dX0_change_20 : decode cX0_change 20 = .ok (.ireturn, 1) := dk_172 (dk_at dksX0_change_0 20 rfl rfl)
theorem dX0_change_21 : decode cX0_change 21 = .ok (.astore 4, 2) := dk_58 4 (dk_at dksX0_change_0 21 rfl rfl)
theorem dX0_change_23 : decode cX0_change 23 = .ok (.iconst 3, 1) := dk_6 (dk_at dksX0_change_0 23 rfl rfl)
theorem dX0_change_24 : decode cX0_change 24 = .ok (.ireturn, 1) := dk_172 (dk_at dksX0_change_1 0 rfl rfl)
theorem dX0_change_25 : decode cX0_change 25 = .ok (.iconst 0, 1) := dk_3 (dk_at dksX0_change_1 1 rfl rfl)
theorem dX0_change_26 : decode cX0_change 26 = .ok (.ireturn, 1) := dk_172 (dk_at dksX0_change_1 2 rfl rfl)
abbrev cX0_shave : ByteArray := method_15_code
def yX0_shave : MethodName := ⟨RX0, "shave", "(LHungFaces;II[J)I"⟩
def dkwX0_shave_0 : List UInt8 := [45, 3, 42, 27, 28, 182, 0, 58, 133, 80, 167, 0, 11, 58, 4, 4, 172, 58, 4, 5, 172, 3, 172]
abbrev dktX0_shave_0 : List UInt8 := dkwX0_shave_0 ++ []
theorem dksX0_shave_0 : cX0_shave.data.toList.drop 0 = dktX0_shave_0 := by decide +kernel
theorem dX0_shave_0 : decode cX0_shave 0 = .ok (.aload_n 3, 1) := dk_45 (dk_at dksX0_shave_0 0 rfl rfl)
theorem dX0_shave_1 : decode cX0_shave 1 = .ok (.iconst 0, 1) := dk_3 (dk_at dksX0_shave_0 1 rfl rfl)
theorem dX0_shave_2 : decode cX0_shave 2 = .ok (.aload_n 0, 1) := dk_42 (dk_at dksX0_shave_0 2 rfl rfl)
theorem dX0_shave_3 : decode cX0_shave 3 = .ok (.iload_n 1, 1) := dk_27 (dk_at dksX0_shave_0 3 rfl rfl)
theorem dX0_shave_4 : decode cX0_shave 4 = .ok (.iload_n 2, 1) := dk_28 (dk_at dksX0_shave_0 4 rfl rfl)
theorem dX0_shave_5 : decode cX0_shave 5 = .ok (.invokevirtual 58, 3) := dk_182 0 58 (dk_at dksX0_shave_0 5 rfl rfl)
theorem dX0_shave_8 : decode cX0_shave 8 = .ok (.i2l, 1) := dk_133 (dk_at dksX0_shave_0 8 rfl rfl)
theorem dX0_shave_9 : decode cX0_shave 9 = .ok (.lastore, 1) := dk_80 (dk_at dksX0_shave_0 9 rfl rfl)
theorem dX0_shave_10 : decode cX0_shave 10 = .ok (.goto 11, 3) := dk_167 0 11 (dk_at dksX0_shave_0 10 rfl rfl)
theorem dX0_shave_13 : decode cX0_shave 13 = .ok (.astore 4, 2) := dk_58 4 (dk_at dksX0_shave_0 13 rfl rfl)
theorem dX0_shave_15 : decode cX0_shave 15 = .ok (.iconst 1, 1) := dk_4 (dk_at dksX0_shave_0 15 rfl rfl)
theorem dX0_shave_16 : decode cX0_shave 16 = .ok (.ireturn, 1) := dk_172 (dk_at dksX0_shave_0 16 rfl rfl)
theorem dX0_shave_17 : decode cX0_shave 17 = .ok (.astore 4, 2) := dk_58 4 (dk_at dksX0_shave_0 17 rfl rfl)
theorem dX0_shave_19 : decode cX0_shave 19 = .ok (.iconst 2, 1) := dk_5 (dk_at dksX0_shave_0 19 rfl rfl)
theorem dX0_shave_20 : decode cX0_shave 20 = .ok (.ireturn, 1) := dk_172 (dk_at dksX0_shave_0 20 rfl rfl)
theorem dX0_shave_21 : decode cX0_shave 21 = .ok (.iconst 0, 1) := dk_3 (dk_at dksX0_shave_0 21 rfl rfl)
theorem dX0_shave_22 : decode cX0_shave 22 = .ok (.ireturn, 1) := dk_172 (dk_at dksX0_shave_0 22 rfl rfl)
abbrev cX0_graft : ByteArray := method_16_code
def yX0_graft : MethodName := ⟨RX0, "graft", "(LHungFaces;III[J)I"⟩
def dkwX0_graft_1 : List UInt8 := [58, 5, 6, 172, 3, 172]
abbrev dktX0_graft_1 : List UInt8 := dkwX0_graft_1 ++ []
def dkwX0_graft_0 : List UInt8 := [25, 4, 3, 42, 27, 28, 29, 182, 0, 61, 133, 80, 167, 0, 15, 58, 5, 4, 172, 58, 5, 5, 172]
abbrev dktX0_graft_0 : List UInt8 := dkwX0_graft_0 ++ dktX0_graft_1
theorem dksX0_graft_0 : cX0_graft.data.toList.drop 0 = dktX0_graft_0 := by decide +kernel
theorem dksX0_graft_1 : cX0_graft.data.toList.drop 23 = dktX0_graft_1 := dk_seg dksX0_graft_0 23 rfl rfl
theorem dX0_graft_0 : decode cX0_graft 0 = .ok (.aload 4, 2) := dk_25 4 (dk_at dksX0_graft_0 0 rfl rfl)
theorem dX0_graft_2 : decode cX0_graft 2 = .ok (.iconst 0, 1) := dk_3 (dk_at dksX0_graft_0 2 rfl rfl)
theorem dX0_graft_3 : decode cX0_graft 3 = .ok (.aload_n 0, 1) := dk_42 (dk_at dksX0_graft_0 3 rfl rfl)
theorem dX0_graft_4 : decode cX0_graft 4 = .ok (.iload_n 1, 1) := dk_27 (dk_at dksX0_graft_0 4 rfl rfl)
theorem dX0_graft_5 : decode cX0_graft 5 = .ok (.iload_n 2, 1) := dk_28 (dk_at dksX0_graft_0 5 rfl rfl)
theorem dX0_graft_6 : decode cX0_graft 6 = .ok (.iload_n 3, 1) := dk_29 (dk_at dksX0_graft_0 6 rfl rfl)
theorem dX0_graft_7 : decode cX0_graft 7 = .ok (.invokevirtual 61, 3) := dk_182 0 61 (dk_at dksX0_graft_0 7 rfl rfl)
theorem dX0_graft_10 : decode cX0_graft 10 = .ok (.i2l, 1) := dk_133 (dk_at dksX0_graft_0 10 rfl rfl)
theorem dX0_graft_11 : decode cX0_graft 11 = .ok (.lastore, 1) := dk_80 (dk_at dksX0_graft_0 11 rfl rfl)
theorem dX0_graft_12 : decode cX0_graft 12 = .ok (.goto 15, 3) := dk_167 0 15 (dk_at dksX0_graft_0 12 rfl rfl)
theorem dX0_graft_15 : decode cX0_graft 15 = .ok (.astore 5, 2) := dk_58 5 (dk_at dksX0_graft_0 15 rfl rfl)
theorem dX0_graft_17 : decode cX0_graft 17 = .ok (.iconst 1, 1) := dk_4 (dk_at dksX0_graft_0 17 rfl rfl)
theorem dX0_graft_18 : decode cX0_graft 18 = .ok (.ireturn, 1) := dk_172 (dk_at dksX0_graft_0 18 rfl rfl)
theorem dX0_graft_19 : decode cX0_graft 19 = .ok (.astore 5, 2) := dk_58 5 (dk_at dksX0_graft_0 19 rfl rfl)
theorem dX0_graft_21 : decode cX0_graft 21 = .ok (.iconst 2, 1) := dk_5 (dk_at dksX0_graft_0 21 rfl rfl)
theorem dX0_graft_22 : decode cX0_graft 22 = .ok (.ireturn, 1) := dk_172 (dk_at dksX0_graft_0 22 rfl rfl)
theorem dX0_graft_23 : decode cX0_graft 23 = .ok (.astore 5, 2) := dk_58 5 (dk_at dksX0_graft_1 0 rfl rfl)
theorem dX0_graft_25 : decode cX0_graft 25 = .ok (.iconst 3, 1) := dk_6 (dk_at dksX0_graft_1 2 rfl rfl)
theorem dX0_graft_26 : decode cX0_graft 26 = .ok (.ireturn, 1) := dk_172 (dk_at dksX0_graft_1 3 rfl rfl)
theorem dX0_graft_27 : decode cX0_graft 27 = .ok (.iconst 0, 1) := dk_3 (dk_at dksX0_graft_1 4 rfl rfl)
theorem dX0_graft_28 : decode cX0_graft 28 = .ok (.ireturn, 1) := dk_172 (dk_at dksX0_graft_1 5 rfl rfl)
abbrev cX0_meet : ByteArray := method_17_code
def yX0_meet : MethodName := ⟨RX0, "meet", "(LHungFaces;II[J)I"⟩
def dkwX0_meet_0 : List UInt8 := [45, 3, 42, 27, 28, 182, 0, 65, 133, 80, 167, 0, 11, 58, 4, 4, 172, 58, 4, 5, 172, 3, 172]
abbrev dktX0_meet_0 : List UInt8 := dkwX0_meet_0 ++ []
theorem dksX0_meet_0 : cX0_meet.data.toList.drop 0 = dktX0_meet_0 := by decide +kernel
theorem dX0_meet_0 : decode cX0_meet 0 = .ok (.aload_n 3, 1) := dk_45 (dk_at dksX0_meet_0 0 rfl rfl)
theorem dX0_meet_1 : decode cX0_meet 1 = .ok (.iconst 0, 1) := dk_3 (dk_at dksX0_meet_0 1 rfl rfl)
theorem dX0_meet_2 : decode cX0_meet 2 = .ok (.aload_n 0, 1) := dk_42 (dk_at dksX0_meet_0 2 rfl rfl)
theorem dX0_meet_3 : decode cX0_meet 3 = .ok (.iload_n 1, 1) := dk_27 (dk_at dksX0_meet_0 3 rfl rfl)
theorem dX0_meet_4 : decode cX0_meet 4 = .ok (.iload_n 2, 1) := dk_28 (dk_at dksX0_meet_0 4 rfl rfl)
theorem dX0_meet_5 : decode cX0_meet 5 = .ok (.invokevirtual 65, 3) := dk_182 0 65 (dk_at dksX0_meet_0 5 rfl rfl)
theorem dX0_meet_8 : decode cX0_meet 8 = .ok (.i2l, 1) := dk_133 (dk_at dksX0_meet_0 8 rfl rfl)
theorem dX0_meet_9 : decode cX0_meet 9 = .ok (.lastore, 1) := dk_80 (dk_at dksX0_meet_0 9 rfl rfl)
theorem dX0_meet_10 : decode cX0_meet 10 = .ok (.goto 11, 3) := dk_167 0 11 (dk_at dksX0_meet_0 10 rfl rfl)
theorem dX0_meet_13 : decode cX0_meet 13 = .ok (.astore 4, 2) := dk_58 4 (dk_at dksX0_meet_0 13 rfl rfl)
theorem dX0_meet_15 : decode cX0_meet 15 = .ok (.iconst 1, 1) := dk_4 (dk_at dksX0_meet_0 15 rfl rfl)
theorem dX0_meet_16 : decode cX0_meet 16 = .ok (.ireturn, 1) := dk_172 (dk_at dksX0_meet_0 16 rfl rfl)
theorem dX0_meet_17 : decode cX0_meet 17 = .ok (.astore 4, 2) := dk_58 4 (dk_at dksX0_meet_0 17 rfl rfl)
theorem dX0_meet_19 : decode cX0_meet 19 = .ok (.iconst 2, 1) := dk_5 (dk_at dksX0_meet_0 19 rfl rfl)
theorem dX0_meet_20 : decode cX0_meet 20 = .ok (.ireturn, 1) := dk_172 (dk_at dksX0_meet_0 20 rfl rfl)
theorem dX0_meet_21 : decode cX0_meet 21 = .ok (.iconst 0, 1) := dk_3 (dk_at dksX0_meet_0 21 rfl rfl)
theorem dX0_meet_22 : decode cX0_meet 22 = .ok (.ireturn, 1) := dk_172 (dk_at dksX0_meet_0 22 rfl rfl)
abbrev cX0_hours : ByteArray := method_18_code
def yX0_hours : MethodName := ⟨RX0, "hours", "(LHungFaces;I[J)I"⟩
def dkwX0_hours_0 : List UInt8 := [44, 3, 42, 27, 182, 0, 68, 133, 80, 167, 0, 6, 78, 4, 172, 3, 172]
abbrev dktX0_hours_0 : List UInt8 := dkwX0_hours_0 ++ []
theorem dksX0_hours_0 : cX0_hours.data.toList.drop 0 = dktX0_hours_0 := by decide +kernel
theorem dX0_hours_0 : decode cX0_hours 0 = .ok (.aload_n 2, 1) := dk_44 (dk_at dksX0_hours_0 0 rfl rfl)
theorem dX0_hours_1 : decode cX0_hours 1 = .ok (.iconst 0, 1) := dk_3 (dk_at dksX0_hours_0 1 rfl rfl)
theorem dX0_hours_2 : decode cX0_hours 2 = .ok (.aload_n 0, 1) := dk_42 (dk_at dksX0_hours_0 2 rfl rfl)
theorem dX0_hours_3 : decode cX0_hours 3 = .ok (.iload_n 1, 1) := dk_27 (dk_at dksX0_hours_0 3 rfl rfl)
theorem dX0_hours_4 : decode cX0_hours 4 = .ok (.invokevirtual 68, 3) := dk_182 0 68 (dk_at dksX0_hours_0 4 rfl rfl)
theorem dX0_hours_7 : decode cX0_hours 7 = .ok (.i2l, 1) := dk_133 (dk_at dksX0_hours_0 7 rfl rfl)
theorem dX0_hours_8 : decode cX0_hours 8 = .ok (.lastore, 1) := dk_80 (dk_at dksX0_hours_0 8 rfl rfl)
theorem dX0_hours_9 : decode cX0_hours 9 = .ok (.goto 6, 3) := dk_167 0 6 (dk_at dksX0_hours_0 9 rfl rfl)
theorem dX0_hours_12 : decode cX0_hours 12 = .ok (.astore_n 3, 1) := dk_78 (dk_at dksX0_hours_0 12 rfl rfl)
theorem dX0_hours_13 : decode cX0_hours 13 = .ok (.iconst 1, 1) := dk_4 (dk_at dksX0_hours_0 13 rfl rfl)
theorem dX0_hours_14 : decode cX0_hours 14 = .ok (.ireturn, 1) := dk_172 (dk_at dksX0_hours_0 14 rfl rfl)
theorem dX0_hours_15 : decode cX0_hours 15 = .ok (.iconst 0, 1) := dk_3 (dk_at dksX0_hours_0 15 rfl rfl)
theorem dX0_hours_16 : decode cX0_hours 16 = .ok (.ireturn, 1) := dk_172 (dk_at dksX0_hours_0 16 rfl rfl)
abbrev cX0_passes : ByteArray := method_19_code
def yX0_passes : MethodName := ⟨RX0, "passes", "(LHungFaces;II[J)I"⟩
def dkwX0_passes_0 : List UInt8 := [45, 3, 42, 27, 28, 182, 0, 71, 133, 80, 167, 0, 7, 58, 4, 4, 172, 3, 172]
abbrev dktX0_passes_0 : List UInt8 := dkwX0_passes_0 ++ []
theorem dksX0_passes_0 : cX0_passes.data.toList.drop 0 = dktX0_passes_0 := by decide +kernel
theorem dX0_passes_0 : decode cX0_passes 0 = .ok (.aload_n 3, 1) := dk_45 (dk_at dksX0_passes_0 0 rfl rfl)
theorem dX0_passes_1 : decode cX0_passes 1 = .ok (.iconst 0, 1) := dk_3 (dk_at dksX0_passes_0 1 rfl rfl)
theorem dX0_passes_2 : decode cX0_passes 2 = .ok (.aload_n 0, 1) := dk_42 (dk_at dksX0_passes_0 2 rfl rfl)
theorem dX0_passes_3 : decode cX0_passes 3 = .ok (.iload_n 1, 1) := dk_27 (dk_at dksX0_passes_0 3 rfl rfl)
theorem dX0_passes_4 : decode cX0_passes 4 = .ok (.iload_n 2, 1) := dk_28 (dk_at dksX0_passes_0 4 rfl rfl)
theorem dX0_passes_5 : decode cX0_passes 5 = .ok (.invokevirtual 71, 3) := dk_182 0 71 (dk_at dksX0_passes_0 5 rfl rfl)
theorem dX0_passes_8 : decode cX0_passes 8 = .ok (.i2l, 1) := dk_133 (dk_at dksX0_passes_0 8 rfl rfl)
theorem dX0_passes_9 : decode cX0_passes 9 = .ok (.lastore, 1) := dk_80 (dk_at dksX0_passes_0 9 rfl rfl)
theorem dX0_passes_10 : decode cX0_passes 10 = .ok (.goto 7, 3) := dk_167 0 7 (dk_at dksX0_passes_0 10 rfl rfl)
theorem dX0_passes_13 : decode cX0_passes 13 = .ok (.astore 4, 2) := dk_58 4 (dk_at dksX0_passes_0 13 rfl rfl)
theorem dX0_passes_15 : decode cX0_passes 15 = .ok (.iconst 1, 1) := dk_4 (dk_at dksX0_passes_0 15 rfl rfl)
theorem dX0_passes_16 : decode cX0_passes 16 = .ok (.ireturn, 1) := dk_172 (dk_at dksX0_passes_0 16 rfl rfl)
theorem dX0_passes_17 : decode cX0_passes 17 = .ok (.iconst 0, 1) := dk_3 (dk_at dksX0_passes_0 17 rfl rfl)
theorem dX0_passes_18 : decode cX0_passes 18 = .ok (.ireturn, 1) := dk_172 (dk_at dksX0_passes_0 18 rfl rfl)
abbrev cX0_core : ByteArray := method_20_code
def yX0_core : MethodName := ⟨RX0, "core", "(LHungFaces;I[J)I"⟩
def dkwX0_core_0 : List UInt8 := [44, 3, 42, 27, 182, 0, 74, 133, 80, 167, 0, 6, 78, 4, 172, 3, 172]
abbrev dktX0_core_0 : List UInt8 := dkwX0_core_0 ++ []
theorem dksX0_core_0 : cX0_core.data.toList.drop 0 = dktX0_core_0 := by decide +kernel
theorem dX0_core_0 : decode cX0_core 0 = .ok (.aload_n 2, 1) := dk_44 (dk_at dksX0_core_0 0 rfl rfl)
theorem dX0_core_1 : decode cX0_core 1 = .ok (.iconst 0, 1) := dk_3 (dk_at dksX0_core_0 1 rfl rfl)
theorem dX0_core_2 : decode cX0_core 2 = .ok (.aload_n 0, 1) := dk_42 (dk_at dksX0_core_0 2 rfl rfl)
theorem dX0_core_3 : decode cX0_core 3 = .ok (.iload_n 1, 1) := dk_27 (dk_at dksX0_core_0 3 rfl rfl)
theorem dX0_core_4 : decode cX0_core 4 = .ok (.invokevirtual 74, 3) := dk_182 0 74 (dk_at dksX0_core_0 4 rfl rfl)
theorem dX0_core_7 : decode cX0_core 7 = .ok (.i2l, 1) := dk_133 (dk_at dksX0_core_0 7 rfl rfl)
theorem dX0_core_8 : decode cX0_core 8 = .ok (.lastore, 1) := dk_80 (dk_at dksX0_core_0 8 rfl rfl)
theorem dX0_core_9 : decode cX0_core 9 = .ok (.goto 6, 3) := dk_167 0 6 (dk_at dksX0_core_0 9 rfl rfl)
theorem dX0_core_12 : decode cX0_core 12 = .ok (.astore_n 3, 1) := dk_78 (dk_at dksX0_core_0 12 rfl rfl)
theorem dX0_core_13 : decode cX0_core 13 = .ok (.iconst 1, 1) := dk_4 (dk_at dksX0_core_0 13 rfl rfl)
theorem dX0_core_14 : decode cX0_core 14 = .ok (.ireturn, 1) := dk_172 (dk_at dksX0_core_0 14 rfl rfl)
theorem dX0_core_15 : decode cX0_core 15 = .ok (.iconst 0, 1) := dk_3 (dk_at dksX0_core_0 15 rfl rfl)
theorem dX0_core_16 : decode cX0_core 16 = .ok (.ireturn, 1) := dk_172 (dk_at dksX0_core_0 16 rfl rfl)
abbrev cX0_block : ByteArray := method_21_code
def yX0_block : MethodName := ⟨RX0, "block", "(LHungFaces;I[J)I"⟩
def dkwX0_block_0 : List UInt8 := [44, 3, 42, 27, 182, 0, 77, 153, 0, 7, 10, 167, 0, 4, 9, 80, 167, 0, 6, 78, 4, 172, 3, 172]
abbrev dktX0_block_0 : List UInt8 := dkwX0_block_0 ++ []
theorem dksX0_block_0 : cX0_block.data.toList.drop 0 = dktX0_block_0 := by decide +kernel
theorem dX0_block_0 : decode cX0_block 0 = .ok (.aload_n 2, 1) := dk_44 (dk_at dksX0_block_0 0 rfl rfl)
theorem dX0_block_1 : decode cX0_block 1 = .ok (.iconst 0, 1) := dk_3 (dk_at dksX0_block_0 1 rfl rfl)
theorem dX0_block_2 : decode cX0_block 2 = .ok (.aload_n 0, 1) := dk_42 (dk_at dksX0_block_0 2 rfl rfl)
theorem dX0_block_3 : decode cX0_block 3 = .ok (.iload_n 1, 1) := dk_27 (dk_at dksX0_block_0 3 rfl rfl)
theorem dX0_block_4 : decode cX0_block 4 = .ok (.invokevirtual 77, 3) := dk_182 0 77 (dk_at dksX0_block_0 4 rfl rfl)
theorem dX0_block_7 : decode cX0_block 7 = .ok (.ifCond .eq 7, 3) := dk_153 0 7 (dk_at dksX0_block_0 7 rfl rfl)
theorem dX0_block_10 : decode cX0_block 10 = .ok (.lconst 1, 1) := dk_10 (dk_at dksX0_block_0 10 rfl rfl)
theorem dX0_block_11 : decode cX0_block 11 = .ok (.goto 4, 3) := dk_167 0 4 (dk_at dksX0_block_0 11 rfl rfl)
theorem dX0_block_14 : decode cX0_block 14 = .ok (.lconst 0, 1) := dk_9 (dk_at dksX0_block_0 14 rfl rfl)
theorem dX0_block_15 : decode cX0_block 15 = .ok (.lastore, 1) := dk_80 (dk_at dksX0_block_0 15 rfl rfl)
theorem dX0_block_16 : decode cX0_block 16 = .ok (.goto 6, 3) := dk_167 0 6 (dk_at dksX0_block_0 16 rfl rfl)
theorem dX0_block_19 : decode cX0_block 19 = .ok (.astore_n 3, 1) := dk_78 (dk_at dksX0_block_0 19 rfl rfl)
theorem dX0_block_20 : decode cX0_block 20 = .ok (.iconst 1, 1) := dk_4 (dk_at dksX0_block_0 20 rfl rfl)
theorem dX0_block_21 : decode cX0_block 21 = .ok (.ireturn, 1) := dk_172 (dk_at dksX0_block_0 21 rfl rfl)
theorem dX0_block_22 : decode cX0_block 22 = .ok (.iconst 0, 1) := dk_3 (dk_at dksX0_block_0 22 rfl rfl)
theorem dX0_block_23 : decode cX0_block 23 = .ok (.ireturn, 1) := dk_172 (dk_at dksX0_block_0 23 rfl rfl)
abbrev cX0_fits : ByteArray := method_22_code
def yX0_fits : MethodName := ⟨RX0, "fits", "(LHungFaces;I[J)I"⟩
def dkwX0_fits_0 : List UInt8 := [44, 3, 42, 27, 182, 0, 81, 133, 80, 167, 0, 9, 78, 4, 172, 78, 5, 172, 3, 172]
abbrev dktX0_fits_0 : List UInt8 := dkwX0_fits_0 ++ []
theorem dksX0_fits_0 : cX0_fits.data.toList.drop 0 = dktX0_fits_0 := by decide +kernel
theorem dX0_fits_0 : decode cX0_fits 0 = .ok (.aload_n 2, 1) := dk_44 (dk_at dksX0_fits_0 0 rfl rfl)
theorem dX0_fits_1 : decode cX0_fits 1 = .ok (.iconst 0, 1) := dk_3 (dk_at dksX0_fits_0 1 rfl rfl)
theorem dX0_fits_2 : decode cX0_fits 2 = .ok (.aload_n 0, 1) := dk_42 (dk_at dksX0_fits_0 2 rfl rfl)
theorem dX0_fits_3 : decode cX0_fits 3 = .ok (.iload_n 1, 1) := dk_27 (dk_at dksX0_fits_0 3 rfl rfl)
theorem dX0_fits_4 : decode cX0_fits 4 = .ok (.invokevirtual 81, 3) := dk_182 0 81 (dk_at dksX0_fits_0 4 rfl rfl)
theorem dX0_fits_7 : decode cX0_fits 7 = .ok (.i2l, 1) := dk_133 (dk_at dksX0_fits_0 7 rfl rfl)
theorem dX0_fits_8 : decode cX0_fits 8 = .ok (.lastore, 1) := dk_80 (dk_at dksX0_fits_0 8 rfl rfl)
theorem dX0_fits_9 : decode cX0_fits 9 = .ok (.goto 9, 3) := dk_167 0 9 (dk_at dksX0_fits_0 9 rfl rfl)
theorem dX0_fits_12 : decode cX0_fits 12 = .ok (.astore_n 3, 1) := dk_78 (dk_at dksX0_fits_0 12 rfl rfl)
theorem dX0_fits_13 : decode cX0_fits 13 = .ok (.iconst 1, 1) := dk_4 (dk_at dksX0_fits_0 13 rfl rfl)
theorem dX0_fits_14 : decode cX0_fits 14 = .ok (.ireturn, 1) := dk_172 (dk_at dksX0_fits_0 14 rfl rfl)
theorem dX0_fits_15 : decode cX0_fits 15 = .ok (.astore_n 3, 1) := dk_78 (dk_at dksX0_fits_0 15 rfl rfl)
theorem dX0_fits_16 : decode cX0_fits 16 = .ok (.iconst 2, 1) := dk_5 (dk_at dksX0_fits_0 16 rfl rfl)
theorem dX0_fits_17 : decode cX0_fits 17 = .ok (.ireturn, 1) := dk_172 (dk_at dksX0_fits_0 17 rfl rfl)
theorem dX0_fits_18 : decode cX0_fits 18 = .ok (.iconst 0, 1) := dk_3 (dk_at dksX0_fits_0 18 rfl rfl)
theorem dX0_fits_19 : decode cX0_fits 19 = .ok (.ireturn, 1) := dk_172 (dk_at dksX0_fits_0 19 rfl rfl)
abbrev cX0_ask : ByteArray := method_23_code
def yX0_ask : MethodName := ⟨RX0, "ask", "(LHungFaces;I[J)I"⟩
def dkwX0_ask_0 : List UInt8 := [44, 3, 42, 27, 182, 0, 84, 133, 80, 167, 0, 9, 78, 4, 172, 78, 5, 172, 3, 172]
abbrev dktX0_ask_0 : List UInt8 := dkwX0_ask_0 ++ []
theorem dksX0_ask_0 : cX0_ask.data.toList.drop 0 = dktX0_ask_0 := by decide +kernel
theorem dX0_ask_0 : decode cX0_ask 0 = .ok (.aload_n 2, 1) := dk_44 (dk_at dksX0_ask_0 0 rfl rfl)
theorem dX0_ask_1 : decode cX0_ask 1 = .ok (.iconst 0, 1) := dk_3 (dk_at dksX0_ask_0 1 rfl rfl)
theorem dX0_ask_2 : decode cX0_ask 2 = .ok (.aload_n 0, 1) := dk_42 (dk_at dksX0_ask_0 2 rfl rfl)
theorem dX0_ask_3 : decode cX0_ask 3 = .ok (.iload_n 1, 1) := dk_27 (dk_at dksX0_ask_0 3 rfl rfl)
theorem dX0_ask_4 : decode cX0_ask 4 = .ok (.invokevirtual 84, 3) := dk_182 0 84 (dk_at dksX0_ask_0 4 rfl rfl)
theorem dX0_ask_7 : decode cX0_ask 7 = .ok (.i2l, 1) := dk_133 (dk_at dksX0_ask_0 7 rfl rfl)
theorem dX0_ask_8 : decode cX0_ask 8 = .ok (.lastore, 1) := dk_80 (dk_at dksX0_ask_0 8 rfl rfl)
theorem dX0_ask_9 : decode cX0_ask 9 = .ok (.goto 9, 3) := dk_167 0 9 (dk_at dksX0_ask_0 9 rfl rfl)
theorem dX0_ask_12 : decode cX0_ask 12 = .ok (.astore_n 3, 1) := dk_78 (dk_at dksX0_ask_0 12 rfl rfl)
theorem dX0_ask_13 : decode cX0_ask 13 = .ok (.iconst 1, 1) := dk_4 (dk_at dksX0_ask_0 13 rfl rfl)
theorem dX0_ask_14 : decode cX0_ask 14 = .ok (.ireturn, 1) := dk_172 (dk_at dksX0_ask_0 14 rfl rfl)
theorem dX0_ask_15 : decode cX0_ask 15 = .ok (.astore_n 3, 1) := dk_78 (dk_at dksX0_ask_0 15 rfl rfl)
theorem dX0_ask_16 : decode cX0_ask 16 = .ok (.iconst 2, 1) := dk_5 (dk_at dksX0_ask_0 16 rfl rfl)
theorem dX0_ask_17 : decode cX0_ask 17 = .ok (.ireturn, 1) := dk_172 (dk_at dksX0_ask_0 17 rfl rfl)
theorem dX0_ask_18 : decode cX0_ask 18 = .ok (.iconst 0, 1) := dk_3 (dk_at dksX0_ask_0 18 rfl rfl)
theorem dX0_ask_19 : decode cX0_ask 19 = .ok (.ireturn, 1) := dk_172 (dk_at dksX0_ask_0 19 rfl rfl)
abbrev cX0_clash : ByteArray := method_24_code
def yX0_clash : MethodName := ⟨RX0, "clash", "(LHungFaces;[J)I"⟩
def dkwX0_clash_0 : List UInt8 := [43, 3, 42, 182, 0, 87, 133, 80, 167, 0, 6, 77, 4, 172, 3, 172]
abbrev dktX0_clash_0 : List UInt8 := dkwX0_clash_0 ++ []
theorem dksX0_clash_0 : cX0_clash.data.toList.drop 0 = dktX0_clash_0 := by decide +kernel
theorem dX0_clash_0 : decode cX0_clash 0 = .ok (.aload_n 1, 1) := dk_43 (dk_at dksX0_clash_0 0 rfl rfl)
theorem dX0_clash_1 : decode cX0_clash 1 = .ok (.iconst 0, 1) := dk_3 (dk_at dksX0_clash_0 1 rfl rfl)
theorem dX0_clash_2 : decode cX0_clash 2 = .ok (.aload_n 0, 1) := dk_42 (dk_at dksX0_clash_0 2 rfl rfl)
theorem dX0_clash_3 : decode cX0_clash 3 = .ok (.invokevirtual 87, 3) := dk_182 0 87 (dk_at dksX0_clash_0 3 rfl rfl)
theorem dX0_clash_6 : decode cX0_clash 6 = .ok (.i2l, 1) := dk_133 (dk_at dksX0_clash_0 6 rfl rfl)
theorem dX0_clash_7 : decode cX0_clash 7 = .ok (.lastore, 1) := dk_80 (dk_at dksX0_clash_0 7 rfl rfl)
theorem dX0_clash_8 : decode cX0_clash 8 = .ok (.goto 6, 3) := dk_167 0 6 (dk_at dksX0_clash_0 8 rfl rfl)
theorem dX0_clash_11 : decode cX0_clash 11 = .ok (.astore_n 2, 1) := dk_77 (dk_at dksX0_clash_0 11 rfl rfl)
theorem dX0_clash_12 : decode cX0_clash 12 = .ok (.iconst 1, 1) := dk_4 (dk_at dksX0_clash_0 12 rfl rfl)
theorem dX0_clash_13 : decode cX0_clash 13 = .ok (.ireturn, 1) := dk_172 (dk_at dksX0_clash_0 13 rfl rfl)
theorem dX0_clash_14 : decode cX0_clash 14 = .ok (.iconst 0, 1) := dk_3 (dk_at dksX0_clash_0 14 rfl rfl)
theorem dX0_clash_15 : decode cX0_clash 15 = .ok (.ireturn, 1) := dk_172 (dk_at dksX0_clash_0 15 rfl rfl)
abbrev cX0_forged : ByteArray := method_25_code
def yX0_forged : MethodName := ⟨RX0, "forged", "(LHungFaces;I[J)I"⟩
def dkwX0_forged_0 : List UInt8 := [44, 3, 42, 27, 182, 0, 90, 133, 80, 167, 0, 6, 78, 4, 172, 3, 172]
abbrev dktX0_forged_0 : List UInt8 := dkwX0_forged_0 ++ []
theorem dksX0_forged_0 : cX0_forged.data.toList.drop 0 = dktX0_forged_0 := by decide +kernel
theorem dX0_forged_0 : decode cX0_forged 0 = .ok (.aload_n 2, 1) := dk_44 (dk_at dksX0_forged_0 0 rfl rfl)
theorem dX0_forged_1 : decode cX0_forged 1 = .ok (.iconst 0, 1) := dk_3 (dk_at dksX0_forged_0 1 rfl rfl)
theorem dX0_forged_2 : decode cX0_forged 2 = .ok (.aload_n 0, 1) := dk_42 (dk_at dksX0_forged_0 2 rfl rfl)
theorem dX0_forged_3 : decode cX0_forged 3 = .ok (.iload_n 1, 1) := dk_27 (dk_at dksX0_forged_0 3 rfl rfl)
theorem dX0_forged_4 : decode cX0_forged 4 = .ok (.invokevirtual 90, 3) := dk_182 0 90 (dk_at dksX0_forged_0 4 rfl rfl)
theorem dX0_forged_7 : decode cX0_forged 7 = .ok (.i2l, 1) := dk_133 (dk_at dksX0_forged_0 7 rfl rfl)
theorem dX0_forged_8 : decode cX0_forged 8 = .ok (.lastore, 1) := dk_80 (dk_at dksX0_forged_0 8 rfl rfl)
theorem dX0_forged_9 : decode cX0_forged 9 = .ok (.goto 6, 3) := dk_167 0 6 (dk_at dksX0_forged_0 9 rfl rfl)
theorem dX0_forged_12 : decode cX0_forged 12 = .ok (.astore_n 3, 1) := dk_78 (dk_at dksX0_forged_0 12 rfl rfl)
theorem dX0_forged_13 : decode cX0_forged 13 = .ok (.iconst 1, 1) := dk_4 (dk_at dksX0_forged_0 13 rfl rfl)
theorem dX0_forged_14 : decode cX0_forged 14 = .ok (.ireturn, 1) := dk_172 (dk_at dksX0_forged_0 14 rfl rfl)
theorem dX0_forged_15 : decode cX0_forged 15 = .ok (.iconst 0, 1) := dk_3 (dk_at dksX0_forged_0 15 rfl rfl)
theorem dX0_forged_16 : decode cX0_forged 16 = .ok (.ireturn, 1) := dk_172 (dk_at dksX0_forged_0 16 rfl rfl)
abbrev cX0_ways : ByteArray := method_26_code
def yX0_ways : MethodName := ⟨RX0, "ways", "(LHungFaces;I[J)I"⟩
def dkwX0_ways_0 : List UInt8 := [44, 3, 42, 27, 182, 0, 93, 133, 80, 167, 0, 6, 78, 4, 172, 3, 172]
abbrev dktX0_ways_0 : List UInt8 := dkwX0_ways_0 ++ []
theorem dksX0_ways_0 : cX0_ways.data.toList.drop 0 = dktX0_ways_0 := by decide +kernel
theorem dX0_ways_0 : decode cX0_ways 0 = .ok (.aload_n 2, 1) := dk_44 (dk_at dksX0_ways_0 0 rfl rfl)
theorem dX0_ways_1 : decode cX0_ways 1 = .ok (.iconst 0, 1) := dk_3 (dk_at dksX0_ways_0 1 rfl rfl)
theorem dX0_ways_2 : decode cX0_ways 2 = .ok (.aload_n 0, 1) := dk_42 (dk_at dksX0_ways_0 2 rfl rfl)
theorem dX0_ways_3 : decode cX0_ways 3 = .ok (.iload_n 1, 1) := dk_27 (dk_at dksX0_ways_0 3 rfl rfl)
theorem dX0_ways_4 : decode cX0_ways 4 = .ok (.invokevirtual 93, 3) := dk_182 0 93 (dk_at dksX0_ways_0 4 rfl rfl)
theorem dX0_ways_7 : decode cX0_ways 7 = .ok (.i2l, 1) := dk_133 (dk_at dksX0_ways_0 7 rfl rfl)
theorem dX0_ways_8 : decode cX0_ways 8 = .ok (.lastore, 1) := dk_80 (dk_at dksX0_ways_0 8 rfl rfl)
theorem dX0_ways_9 : decode cX0_ways 9 = .ok (.goto 6, 3) := dk_167 0 6 (dk_at dksX0_ways_0 9 rfl rfl)
theorem dX0_ways_12 : decode cX0_ways 12 = .ok (.astore_n 3, 1) := dk_78 (dk_at dksX0_ways_0 12 rfl rfl)
theorem dX0_ways_13 : decode cX0_ways 13 = .ok (.iconst 1, 1) := dk_4 (dk_at dksX0_ways_0 13 rfl rfl)
theorem dX0_ways_14 : decode cX0_ways 14 = .ok (.ireturn, 1) := dk_172 (dk_at dksX0_ways_0 14 rfl rfl)
theorem dX0_ways_15 : decode cX0_ways 15 = .ok (.iconst 0, 1) := dk_3 (dk_at dksX0_ways_0 15 rfl rfl)
theorem dX0_ways_16 : decode cX0_ways 16 = .ok (.ireturn, 1) := dk_172 (dk_at dksX0_ways_0 16 rfl rfl)
abbrev cX0_talk : ByteArray := method_27_code
def yX0_talk : MethodName := ⟨RX0, "talk", "(LHungFaces;I[J)I"⟩
def dkwX0_talk_0 : List UInt8 := [44, 3, 42, 27, 182, 0, 96, 133, 80, 167, 0, 6, 78, 4, 172, 3, 172]
abbrev dktX0_talk_0 : List UInt8 := dkwX0_talk_0 ++ []
theorem dksX0_talk_0 : cX0_talk.data.toList.drop 0 = dktX0_talk_0 := by decide +kernel
theorem dX0_talk_0 : decode cX0_talk 0 = .ok (.aload_n 2, 1) := dk_44 (dk_at dksX0_talk_0 0 rfl rfl)
theorem dX0_talk_1 : decode cX0_talk 1 = .ok (.iconst 0, 1) := dk_3 (dk_at dksX0_talk_0 1 rfl rfl)
theorem dX0_talk_2 : decode cX0_talk 2 = .ok (.aload_n 0, 1) := dk_42 (dk_at dksX0_talk_0 2 rfl rfl)
theorem dX0_talk_3 : decode cX0_talk 3 = .ok (.iload_n 1, 1) := dk_27 (dk_at dksX0_talk_0 3 rfl rfl)
theorem dX0_talk_4 : decode cX0_talk 4 = .ok (.invokevirtual 96, 3) := dk_182 0 96 (dk_at dksX0_talk_0 4 rfl rfl)
theorem dX0_talk_7 : decode cX0_talk 7 = .ok (.i2l, 1) := dk_133 (dk_at dksX0_talk_0 7 rfl rfl)
theorem dX0_talk_8 : decode cX0_talk 8 = .ok (.lastore, 1) := dk_80 (dk_at dksX0_talk_0 8 rfl rfl)
theorem dX0_talk_9 : decode cX0_talk 9 = .ok (.goto 6, 3) := dk_167 0 6 (dk_at dksX0_talk_0 9 rfl rfl)
theorem dX0_talk_12 : decode cX0_talk 12 = .ok (.astore_n 3, 1) := dk_78 (dk_at dksX0_talk_0 12 rfl rfl)
theorem dX0_talk_13 : decode cX0_talk 13 = .ok (.iconst 1, 1) := dk_4 (dk_at dksX0_talk_0 13 rfl rfl)
theorem dX0_talk_14 : decode cX0_talk 14 = .ok (.ireturn, 1) := dk_172 (dk_at dksX0_talk_0 14 rfl rfl)
theorem dX0_talk_15 : decode cX0_talk 15 = .ok (.iconst 0, 1) := dk_3 (dk_at dksX0_talk_0 15 rfl rfl)
theorem dX0_talk_16 : decode cX0_talk 16 = .ok (.ireturn, 1) := dk_172 (dk_at dksX0_talk_0 16 rfl rfl)
abbrev cX0_chain : ByteArray := method_28_code
def yX0_chain : MethodName := ⟨RX0, "chain", "(LHungFaces;II[J)I"⟩
def dkwX0_chain_0 : List UInt8 := [45, 3, 42, 27, 28, 182, 0, 99, 133, 80, 167, 0, 11, 58, 4, 4, 172, 58, 4, 5, 172, 3, 172]
abbrev dktX0_chain_0 : List UInt8 := dkwX0_chain_0 ++ []
theorem dksX0_chain_0 : cX0_chain.data.toList.drop 0 = dktX0_chain_0 := by decide +kernel
theorem dX0_chain_0 : decode cX0_chain 0 = .ok (.aload_n 3, 1) := dk_45 (dk_at dksX0_chain_0 0 rfl rfl)
theorem dX0_chain_1 : decode cX0_chain 1 = .ok (.iconst 0, 1) := dk_3 (dk_at dksX0_chain_0 1 rfl rfl)
theorem dX0_chain_2 : decode cX0_chain 2 = .ok (.aload_n 0, 1) := dk_42 (dk_at dksX0_chain_0 2 rfl rfl)
theorem dX0_chain_3 : decode cX0_chain 3 = .ok (.iload_n 1, 1) := dk_27 (dk_at dksX0_chain_0 3 rfl rfl)
theorem dX0_chain_4 : decode cX0_chain 4 = .ok (.iload_n 2, 1) := dk_28 (dk_at dksX0_chain_0 4 rfl rfl)
theorem dX0_chain_5 : decode cX0_chain 5 = .ok (.invokevirtual 99, 3) := dk_182 0 99 (dk_at dksX0_chain_0 5 rfl rfl)
theorem dX0_chain_8 : decode cX0_chain 8 = .ok (.i2l, 1) := dk_133 (dk_at dksX0_chain_0 8 rfl rfl)
theorem dX0_chain_9 : decode cX0_chain 9 = .ok (.lastore, 1) := dk_80 (dk_at dksX0_chain_0 9 rfl rfl)
theorem dX0_chain_10 : decode cX0_chain 10 = .ok (.goto 11, 3) := dk_167 0 11 (dk_at dksX0_chain_0 10 rfl rfl)
theorem dX0_chain_13 : decode cX0_chain 13 = .ok (.astore 4, 2) := dk_58 4 (dk_at dksX0_chain_0 13 rfl rfl)
theorem dX0_chain_15 : decode cX0_chain 15 = .ok (.iconst 1, 1) := dk_4 (dk_at dksX0_chain_0 15 rfl rfl)
theorem dX0_chain_16 : decode cX0_chain 16 = .ok (.ireturn, 1) := dk_172 (dk_at dksX0_chain_0 16 rfl rfl)
theorem dX0_chain_17 : decode cX0_chain 17 = .ok (.astore 4, 2) := dk_58 4 (dk_at dksX0_chain_0 17 rfl rfl)
theorem dX0_chain_19 : decode cX0_chain 19 = .ok (.iconst 2, 1) := dk_5 (dk_at dksX0_chain_0 19 rfl rfl)
theorem dX0_chain_20 : decode cX0_chain 20 = .ok (.ireturn, 1) := dk_172 (dk_at dksX0_chain_0 20 rfl rfl)
theorem dX0_chain_21 : decode cX0_chain 21 = .ok (.iconst 0, 1) := dk_3 (dk_at dksX0_chain_0 21 rfl rfl)
theorem dX0_chain_22 : decode cX0_chain 22 = .ok (.ireturn, 1) := dk_172 (dk_at dksX0_chain_0 22 rfl rfl)
abbrev cX0_hears : ByteArray := method_29_code
def yX0_hears : MethodName := ⟨RX0, "hears", "(LHungFaces;II[J)I"⟩
def dkwX0_hears_0 : List UInt8 := [45, 3, 42, 27, 28, 182, 0, 102, 133, 80, 167, 0, 11, 58, 4, 4, 172, 58, 4, 5, 172, 3, 172]
abbrev dktX0_hears_0 : List UInt8 := dkwX0_hears_0 ++ []
theorem dksX0_hears_0 : cX0_hears.data.toList.drop 0 = dktX0_hears_0 := by decide +kernel
theorem dX0_hears_0 : decode cX0_hears 0 = .ok (.aload_n 3, 1) := dk_45 (dk_at dksX0_hears_0 0 rfl rfl)
theorem dX0_hears_1 : decode cX0_hears 1 = .ok (.iconst 0, 1) := dk_3 (dk_at dksX0_hears_0 1 rfl rfl)
theorem dX0_hears_2 : decode cX0_hears 2 = .ok (.aload_n 0, 1) := dk_42 (dk_at dksX0_hears_0 2 rfl rfl)
theorem dX0_hears_3 : decode cX0_hears 3 = .ok (.iload_n 1, 1) := dk_27 (dk_at dksX0_hears_0 3 rfl rfl)
theorem dX0_hears_4 : decode cX0_hears 4 = .ok (.iload_n 2, 1) := dk_28 (dk_at dksX0_hears_0 4 rfl rfl)
theorem dX0_hears_5 : decode cX0_hears 5 = .ok (.invokevirtual 102, 3) := dk_182 0 102 (dk_at dksX0_hears_0 5 rfl rfl)
theorem dX0_hears_8 : decode cX0_hears 8 = .ok (.i2l, 1) := dk_133 (dk_at dksX0_hears_0 8 rfl rfl)
theorem dX0_hears_9 : decode cX0_hears 9 = .ok (.lastore, 1) := dk_80 (dk_at dksX0_hears_0 9 rfl rfl)
theorem dX0_hears_10 : decode cX0_hears 10 = .ok (.goto 11, 3) := dk_167 0 11 (dk_at dksX0_hears_0 10 rfl rfl)
theorem dX0_hears_13 : decode cX0_hears 13 = .ok (.astore 4, 2) := dk_58 4 (dk_at dksX0_hears_0 13 rfl rfl)
theorem dX0_hears_15 : decode cX0_hears 15 = .ok (.iconst 1, 1) := dk_4 (dk_at dksX0_hears_0 15 rfl rfl)
theorem dX0_hears_16 : decode cX0_hears 16 = .ok (.ireturn, 1) := dk_172 (dk_at dksX0_hears_0 16 rfl rfl)
theorem dX0_hears_17 : decode cX0_hears 17 = .ok (.astore 4, 2) := dk_58 4 (dk_at dksX0_hears_0 17 rfl rfl)
theorem dX0_hears_19 : decode cX0_hears 19 = .ok (.iconst 2, 1) := dk_5 (dk_at dksX0_hears_0 19 rfl rfl)
theorem dX0_hears_20 : decode cX0_hears 20 = .ok (.ireturn, 1) := dk_172 (dk_at dksX0_hears_0 20 rfl rfl)
theorem dX0_hears_21 : decode cX0_hears 21 = .ok (.iconst 0, 1) := dk_3 (dk_at dksX0_hears_0 21 rfl rfl)
theorem dX0_hears_22 : decode cX0_hears 22 = .ok (.ireturn, 1) := dk_172 (dk_at dksX0_hears_0 22 rfl rfl)
abbrev cX0_trial : ByteArray := method_30_code
def yX0_trial : MethodName := ⟨RX0, "trial", "(LHungFaces;I[J)I"⟩
def dkwX0_trial_0 : List UInt8 := [44, 3, 42, 27, 182, 0, 105, 133, 80, 167, 0, 6, 78, 4, 172, 3, 172]
abbrev dktX0_trial_0 : List UInt8 := dkwX0_trial_0 ++ []
theorem dksX0_trial_0 : cX0_trial.data.toList.drop 0 = dktX0_trial_0 := by decide +kernel
theorem dX0_trial_0 : decode cX0_trial 0 = .ok (.aload_n 2, 1) := dk_44 (dk_at dksX0_trial_0 0 rfl rfl)
theorem dX0_trial_1 : decode cX0_trial 1 = .ok (.iconst 0, 1) := dk_3 (dk_at dksX0_trial_0 1 rfl rfl)
theorem dX0_trial_2 : decode cX0_trial 2 = .ok (.aload_n 0, 1) := dk_42 (dk_at dksX0_trial_0 2 rfl rfl)
theorem dX0_trial_3 : decode cX0_trial 3 = .ok (.iload_n 1, 1) := dk_27 (dk_at dksX0_trial_0 3 rfl rfl)
theorem dX0_trial_4 : decode cX0_trial 4 = .ok (.invokevirtual 105, 3) := dk_182 0 105 (dk_at dksX0_trial_0 4 rfl rfl)
theorem dX0_trial_7 : decode cX0_trial 7 = .ok (.i2l, 1) := dk_133 (dk_at dksX0_trial_0 7 rfl rfl)
theorem dX0_trial_8 : decode cX0_trial 8 = .ok (.lastore, 1) := dk_80 (dk_at dksX0_trial_0 8 rfl rfl)
theorem dX0_trial_9 : decode cX0_trial 9 = .ok (.goto 6, 3) := dk_167 0 6 (dk_at dksX0_trial_0 9 rfl rfl)
theorem dX0_trial_12 : decode cX0_trial 12 = .ok (.astore_n 3, 1) := dk_78 (dk_at dksX0_trial_0 12 rfl rfl)
theorem dX0_trial_13 : decode cX0_trial 13 = .ok (.iconst 1, 1) := dk_4 (dk_at dksX0_trial_0 13 rfl rfl)
theorem dX0_trial_14 : decode cX0_trial 14 = .ok (.ireturn, 1) := dk_172 (dk_at dksX0_trial_0 14 rfl rfl)
theorem dX0_trial_15 : decode cX0_trial 15 = .ok (.iconst 0, 1) := dk_3 (dk_at dksX0_trial_0 15 rfl rfl)
theorem dX0_trial_16 : decode cX0_trial 16 = .ok (.ireturn, 1) := dk_172 (dk_at dksX0_trial_0 16 rfl rfl)
abbrev cX0_span : ByteArray := method_31_code
def yX0_span : MethodName := ⟨RX0, "span", "(LHungFaces;IZ[J)I"⟩
def dkwX0_span_0 : List UInt8 := [45, 3, 42, 27, 28, 182, 0, 108, 133, 80, 167, 0, 7, 58, 4, 4, 172, 3, 172]
abbrev dktX0_span_0 : List UInt8 := dkwX0_span_0 ++ []
theorem dksX0_span_0 : cX0_span.data.toList.drop 0 = dktX0_span_0 := by decide +kernel
theorem dX0_span_0 : decode cX0_span 0 = .ok (.aload_n 3, 1) := dk_45 (dk_at dksX0_span_0 0 rfl rfl)
theorem dX0_span_1 : decode cX0_span 1 = .ok (.iconst 0, 1) := dk_3 (dk_at dksX0_span_0 1 rfl rfl)
theorem dX0_span_2 : decode cX0_span 2 = .ok (.aload_n 0, 1) := dk_42 (dk_at dksX0_span_0 2 rfl rfl)
theorem dX0_span_3 : decode cX0_span 3 = .ok (.iload_n 1, 1) := dk_27 (dk_at dksX0_span_0 3 rfl rfl)
theorem dX0_span_4 : decode cX0_span 4 = .ok (.iload_n 2, 1) := dk_28 (dk_at dksX0_span_0 4 rfl rfl)
theorem dX0_span_5 : decode cX0_span 5 = .ok (.invokevirtual 108, 3) := dk_182 0 108 (dk_at dksX0_span_0 5 rfl rfl)
theorem dX0_span_8 : decode cX0_span 8 = .ok (.i2l, 1) := dk_133 (dk_at dksX0_span_0 8 rfl rfl)
theorem dX0_span_9 : decode cX0_span 9 = .ok (.lastore, 1) := dk_80 (dk_at dksX0_span_0 9 rfl rfl)
theorem dX0_span_10 : decode cX0_span 10 = .ok (.goto 7, 3) := dk_167 0 7 (dk_at dksX0_span_0 10 rfl rfl)
theorem dX0_span_13 : decode cX0_span 13 = .ok (.astore 4, 2) := dk_58 4 (dk_at dksX0_span_0 13 rfl rfl)
theorem dX0_span_15 : decode cX0_span 15 = .ok (.iconst 1, 1) := dk_4 (dk_at dksX0_span_0 15 rfl rfl)
theorem dX0_span_16 : decode cX0_span 16 = .ok (.ireturn, 1) := dk_172 (dk_at dksX0_span_0 16 rfl rfl)
theorem dX0_span_17 : decode cX0_span 17 = .ok (.iconst 0, 1) := dk_3 (dk_at dksX0_span_0 17 rfl rfl)
theorem dX0_span_18 : decode cX0_span 18 = .ok (.ireturn, 1) := dk_172 (dk_at dksX0_span_0 18 rfl rfl)
abbrev cX0_led : ByteArray := method_32_code
def yX0_led : MethodName := ⟨RX0, "led", "(LHungFaces;IZ[J)I"⟩
def dkwX0_led_0 : List UInt8 := [45, 3, 42, 27, 28, 182, 0, 112, 133, 80, 167, 0, 7, 58, 4, 4, 172, 3, 172]
abbrev dktX0_led_0 : List UInt8 := dkwX0_led_0 ++ []
theorem dksX0_led_0 : cX0_led.data.toList.drop 0 = dktX0_led_0 := by decide +kernel
theorem dX0_led_0 : decode cX0_led 0 = .ok (.aload_n 3, 1) := dk_45 (dk_at dksX0_led_0 0 rfl rfl)
theorem dX0_led_1 : decode cX0_led 1 = .ok (.iconst 0, 1) := dk_3 (dk_at dksX0_led_0 1 rfl rfl)
theorem dX0_led_2 : decode cX0_led 2 = .ok (.aload_n 0, 1) := dk_42 (dk_at dksX0_led_0 2 rfl rfl)
theorem dX0_led_3 : decode cX0_led 3 = .ok (.iload_n 1, 1) := dk_27 (dk_at dksX0_led_0 3 rfl rfl)
theorem dX0_led_4 : decode cX0_led 4 = .ok (.iload_n 2, 1) := dk_28 (dk_at dksX0_led_0 4 rfl rfl)
theorem dX0_led_5 : decode cX0_led 5 = .ok (.invokevirtual 112, 3) := dk_182 0 112 (dk_at dksX0_led_0 5 rfl rfl)
theorem dX0_led_8 : decode cX0_led 8 = .ok (.i2l, 1) := dk_133 (dk_at dksX0_led_0 8 rfl rfl)
theorem dX0_led_9 : decode cX0_led 9 = .ok (.lastore, 1) := dk_80 (dk_at dksX0_led_0 9 rfl rfl)
theorem dX0_led_10 : decode cX0_led 10 = .ok (.goto 7, 3) := dk_167 0 7 (dk_at dksX0_led_0 10 rfl rfl)
theorem dX0_led_13 : decode cX0_led 13 = .ok (.astore 4, 2) := dk_58 4 (dk_at dksX0_led_0 13 rfl rfl)
theorem dX0_led_15 : decode cX0_led 15 = .ok (.iconst 1, 1) := dk_4 (dk_at dksX0_led_0 15 rfl rfl)
theorem dX0_led_16 : decode cX0_led 16 = .ok (.ireturn, 1) := dk_172 (dk_at dksX0_led_0 16 rfl rfl)
theorem dX0_led_17 : decode cX0_led 17 = .ok (.iconst 0, 1) := dk_3 (dk_at dksX0_led_0 17 rfl rfl)
theorem dX0_led_18 : decode cX0_led 18 = .ok (.ireturn, 1) := dk_172 (dk_at dksX0_led_0 18 rfl rfl)
abbrev cX0_log : ByteArray := method_33_code
def yX0_log : MethodName := ⟨RX0, "log", "(LHungFaces;II[J)I"⟩
def dkwX0_log_0 : List UInt8 := [45, 3, 42, 27, 28, 182, 0, 115, 133, 80, 167, 0, 7, 58, 4, 4, 172, 3, 172]
abbrev dktX0_log_0 : List UInt8 := dkwX0_log_0 ++ []
theorem dksX0_log_0 : cX0_log.data.toList.drop 0 = dktX0_log_0 := by decide +kernel
theorem dX0_log_0 : decode cX0_log 0 = .ok (.aload_n 3, 1) := dk_45 (dk_at dksX0_log_0 0 rfl rfl)
theorem dX0_log_1 : decode cX0_log 1 = .ok (.iconst 0, 1) := dk_3 (dk_at dksX0_log_0 1 rfl rfl)
theorem dX0_log_2 : decode cX0_log 2 = .ok (.aload_n 0, 1) := dk_42 (dk_at dksX0_log_0 2 rfl rfl)
theorem dX0_log_3 : decode cX0_log 3 = .ok (.iload_n 1, 1) := dk_27 (dk_at dksX0_log_0 3 rfl rfl)
theorem dX0_log_4 : decode cX0_log 4 = .ok (.iload_n 2, 1) := dk_28 (dk_at dksX0_log_0 4 rfl rfl)
theorem dX0_log_5 : decode cX0_log 5 = .ok (.invokevirtual 115, 3) := dk_182 0 115 (dk_at dksX0_log_0 5 rfl rfl)
theorem dX0_log_8 : decode cX0_log 8 = .ok (.i2l, 1) := dk_133 (dk_at dksX0_log_0 8 rfl rfl)
theorem dX0_log_9 : decode cX0_log 9 = .ok (.lastore, 1) := dk_80 (dk_at dksX0_log_0 9 rfl rfl)
theorem dX0_log_10 : decode cX0_log 10 = .ok (.goto 7, 3) := dk_167 0 7 (dk_at dksX0_log_0 10 rfl rfl)
theorem dX0_log_13 : decode cX0_log 13 = .ok (.astore 4, 2) := dk_58 4 (dk_at dksX0_log_0 13 rfl rfl)
theorem dX0_log_15 : decode cX0_log 15 = .ok (.iconst 1, 1) := dk_4 (dk_at dksX0_log_0 15 rfl rfl)
theorem dX0_log_16 : decode cX0_log 16 = .ok (.ireturn, 1) := dk_172 (dk_at dksX0_log_0 16 rfl rfl)
theorem dX0_log_17 : decode cX0_log 17 = .ok (.iconst 0, 1) := dk_3 (dk_at dksX0_log_0 17 rfl rfl)
theorem dX0_log_18 : decode cX0_log 18 = .ok (.ireturn, 1) := dk_172 (dk_at dksX0_log_0 18 rfl rfl)
