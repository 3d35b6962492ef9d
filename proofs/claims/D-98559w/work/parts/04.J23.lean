/-! decode rows of J23 -/
set_option maxRecDepth 100000
abbrev cJ23_checkIndex : ByteArray := prog_56_method_17_code
def yJ23_checkIndex : MethodName := ⟨RJ23, "checkIndex", "(II)I"⟩
def dkwJ23_checkIndex_0 : List UInt8 := [26, 27, 1, 184, 0, 105, 172]
abbrev dktJ23_checkIndex_0 : List UInt8 := dkwJ23_checkIndex_0 ++ []
theorem dksJ23_checkIndex_0 : cJ23_checkIndex.data.toList.drop 0 = dktJ23_checkIndex_0 := by decide +kernel
theorem dJ23_checkIndex_0 : decode cJ23_checkIndex 0 = .ok (.iload_n 0, 1) := dk_26 (dk_at dksJ23_checkIndex_0 0 rfl rfl)
theorem dJ23_checkIndex_1 : decode cJ23_checkIndex 1 = .ok (.iload_n 1, 1) := dk_27 (dk_at dksJ23_checkIndex_0 1 rfl rfl)
theorem dJ23_checkIndex_2 : decode cJ23_checkIndex 2 = .ok (.aconst_null, 1) := dk_1 (dk_at dksJ23_checkIndex_0 2 rfl rfl)
theorem dJ23_checkIndex_3 : decode cJ23_checkIndex 3 = .ok (.invokestatic 105, 3) := dk_184 0 105 (dk_at dksJ23_checkIndex_0 3 rfl rfl)
theorem dJ23_checkIndex_6 : decode cJ23_checkIndex 6 = .ok (.ireturn, 1) := dk_172 (dk_at dksJ23_checkIndex_0 6 rfl rfl)
