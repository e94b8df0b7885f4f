set_option maxRecDepth 100000
abbrev cJ10_checkIndex : ByteArray := prog_43_method_17_code
def yJ10_checkIndex : MethodName := ⟨RJ10, "checkIndex", "(II)I"⟩
def dkwJ10_checkIndex_0 : List UInt8 := [26, 27, 1, 184, 0, 105, 172]
abbrev dktJ10_checkIndex_0 : List UInt8 := dkwJ10_checkIndex_0 ++ []
theorem dksJ10_checkIndex_0 : cJ10_checkIndex.data.toList.drop 0 = dktJ10_checkIndex_0 := by decide +kernel
theorem dJ10_checkIndex_0 : decode cJ10_checkIndex 0 = .ok (.iload_n 0, 1) := dk_26 (dk_at dksJ10_checkIndex_0 0 rfl rfl)
theorem dJ10_checkIndex_1 : decode cJ10_checkIndex 1 = .ok (.iload_n 1, 1) := dk_27 (dk_at dksJ10_checkIndex_0 1 rfl rfl)
theorem dJ10_checkIndex_2 : decode cJ10_checkIndex 2 = .ok (.aconst_null, 1) := dk_1 (dk_at dksJ10_checkIndex_0 2 rfl rfl)
theorem dJ10_checkIndex_3 : decode cJ10_checkIndex 3 = .ok (.invokestatic 105, 3) := dk_184 0 105 (dk_at dksJ10_checkIndex_0 3 rfl rfl)
theorem dJ10_checkIndex_6 : decode cJ10_checkIndex 6 = .ok (.ireturn, 1) := dk_172 (dk_at dksJ10_checkIndex_0 6 rfl rfl)
