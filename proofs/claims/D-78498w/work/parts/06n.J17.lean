set_option maxRecDepth 100000
abbrev cJ17_init : ByteArray := prog_29_method_1_code
def yJ17_init : MethodName := ⟨RJ17, "<init>", "()V"⟩
def dkwJ17_init_0 : List UInt8 := [42, 16, 16, 183, 0, 1, 177]
abbrev dktJ17_init_0 : List UInt8 := dkwJ17_init_0 ++ []
theorem dksJ17_init_0 : cJ17_init.data.toList.drop 0 = dktJ17_init_0 := by decide +kernel
theorem dJ17_init_0 : decode cJ17_init 0 = .ok (.aload_n 0, 1) := dk_42 (dk_at dksJ17_init_0 0 rfl rfl)
theorem dJ17_init_1 : decode cJ17_init 1 = .ok (.bipush 16, 2) := dk_16 16 (dk_at dksJ17_init_0 1 rfl rfl)
theorem dJ17_init_3 : decode cJ17_init 3 = .ok (.invokespecial 1, 3) := dk_183 0 1 (dk_at dksJ17_init_0 3 rfl rfl)
theorem dJ17_init_6 : decode cJ17_init 6 = .ok (.return_, 1) := dk_177 (dk_at dksJ17_init_0 6 rfl rfl)
abbrev cJ17_append : ByteArray := prog_29_method_14_code
def yJ17_append : MethodName := ⟨RJ17, "append", "(C)Ljava/lang/StringBuilder;"⟩
def dkwJ17_append_0 : List UInt8 := [42, 27, 183, 0, 50, 87, 42, 176]
abbrev dktJ17_append_0 : List UInt8 := dkwJ17_append_0 ++ []
theorem dksJ17_append_0 : cJ17_append.data.toList.drop 0 = dktJ17_append_0 := by decide +kernel
theorem dJ17_append_0 : decode cJ17_append 0 = .ok (.aload_n 0, 1) := dk_42 (dk_at dksJ17_append_0 0 rfl rfl)
theorem dJ17_append_1 : decode cJ17_append 1 = .ok (.iload_n 1, 1) := dk_27 (dk_at dksJ17_append_0 1 rfl rfl)
theorem dJ17_append_2 : decode cJ17_append 2 = .ok (.invokespecial 50, 3) := dk_183 0 50 (dk_at dksJ17_append_0 2 rfl rfl)
theorem dJ17_append_5 : decode cJ17_append 5 = .ok (.pop, 1) := dk_87 (dk_at dksJ17_append_0 5 rfl rfl)
theorem dJ17_append_6 : decode cJ17_append 6 = .ok (.aload_n 0, 1) := dk_42 (dk_at dksJ17_append_0 6 rfl rfl)
theorem dJ17_append_7 : decode cJ17_append 7 = .ok (.areturn, 1) := dk_176 (dk_at dksJ17_append_0 7 rfl rfl)
abbrev cJ17_toString : ByteArray := prog_29_method_42_code
def yJ17_toString : MethodName := ⟨RJ17, "toString", "()Ljava/lang/String;"⟩
def dkwJ17_toString_0 : List UInt8 := [187, 0, 18, 89, 42, 183, 0, 137, 176]
abbrev dktJ17_toString_0 : List UInt8 := dkwJ17_toString_0 ++ []
theorem dksJ17_toString_0 : cJ17_toString.data.toList.drop 0 = dktJ17_toString_0 := by decide +kernel
theorem dJ17_toString_0 : decode cJ17_toString 0 = .ok (.new 18, 3) := dk_187 0 18 (dk_at dksJ17_toString_0 0 rfl rfl)
theorem dJ17_toString_3 : decode cJ17_toString 3 = .ok (.dup, 1) := dk_89 (dk_at dksJ17_toString_0 3 rfl rfl)
theorem dJ17_toString_4 : decode cJ17_toString 4 = .ok (.aload_n 0, 1) := dk_42 (dk_at dksJ17_toString_0 4 rfl rfl)
theorem dJ17_toString_5 : decode cJ17_toString 5 = .ok (.invokespecial 137, 3) := dk_183 0 137 (dk_at dksJ17_toString_0 5 rfl rfl)
theorem dJ17_toString_8 : decode cJ17_toString 8 = .ok (.areturn, 1) := dk_176 (dk_at dksJ17_toString_0 8 rfl rfl)
abbrev cJ17_length : ByteArray := prog_29_method_93_code
def yJ17_length : MethodName := ⟨RJ17, "length", "()I"⟩
theorem dJ17_length_0 : decode cJ17_length 0 = .ok (.aload_n 0, 1) := by decide +kernel
theorem dJ17_length_1 : decode cJ17_length 1 = .ok (.invokespecial 343, 3) := by decide +kernel
theorem dJ17_length_4 : decode cJ17_length 4 = .ok (.ireturn, 1) := by decide +kernel
abbrev cJ17_append_2 : ByteArray := prog_29_method_15_code
def yJ17_append_2 : MethodName := ⟨RJ17, "append", "(I)Ljava/lang/StringBuilder;"⟩
def dkwJ17_append_2_0 : List UInt8 := [42, 27, 183, 0, 53, 87, 42, 176]
abbrev dktJ17_append_2_0 : List UInt8 := dkwJ17_append_2_0 ++ []
theorem dksJ17_append_2_0 : cJ17_append_2.data.toList.drop 0 = dktJ17_append_2_0 := by decide +kernel
theorem dJ17_append_2_0 : decode cJ17_append_2 0 = .ok (.aload_n 0, 1) := dk_42 (dk_at dksJ17_append_2_0 0 rfl rfl)
theorem dJ17_append_2_1 : decode cJ17_append_2 1 = .ok (.iload_n 1, 1) := dk_27 (dk_at dksJ17_append_2_0 1 rfl rfl)
theorem dJ17_append_2_2 : decode cJ17_append_2 2 = .ok (.invokespecial 53, 3) := dk_183 0 53 (dk_at dksJ17_append_2_0 2 rfl rfl)
theorem dJ17_append_2_5 : decode cJ17_append_2 5 = .ok (.pop, 1) := dk_87 (dk_at dksJ17_append_2_0 5 rfl rfl)
theorem dJ17_append_2_6 : decode cJ17_append_2 6 = .ok (.aload_n 0, 1) := dk_42 (dk_at dksJ17_append_2_0 6 rfl rfl)
theorem dJ17_append_2_7 : decode cJ17_append_2 7 = .ok (.areturn, 1) := dk_176 (dk_at dksJ17_append_2_0 7 rfl rfl)
abbrev cJ17_append_3 : ByteArray := prog_29_method_7_code
def yJ17_append_3 : MethodName := ⟨RJ17, "append", "(Ljava/lang/String;)Ljava/lang/StringBuilder;"⟩
def dkwJ17_append_3_0 : List UInt8 := [42, 43, 183, 0, 29, 87, 42, 176]
abbrev dktJ17_append_3_0 : List UInt8 := dkwJ17_append_3_0 ++ []
theorem dksJ17_append_3_0 : cJ17_append_3.data.toList.drop 0 = dktJ17_append_3_0 := by decide +kernel
theorem dJ17_append_3_0 : decode cJ17_append_3 0 = .ok (.aload_n 0, 1) := dk_42 (dk_at dksJ17_append_3_0 0 rfl rfl)
theorem dJ17_append_3_1 : decode cJ17_append_3 1 = .ok (.aload_n 1, 1) := dk_43 (dk_at dksJ17_append_3_0 1 rfl rfl)
theorem dJ17_append_3_2 : decode cJ17_append_3 2 = .ok (.invokespecial 29, 3) := dk_183 0 29 (dk_at dksJ17_append_3_0 2 rfl rfl)
theorem dJ17_append_3_5 : decode cJ17_append_3 5 = .ok (.pop, 1) := dk_87 (dk_at dksJ17_append_3_0 5 rfl rfl)
theorem dJ17_append_3_6 : decode cJ17_append_3 6 = .ok (.aload_n 0, 1) := dk_42 (dk_at dksJ17_append_3_0 6 rfl rfl)
theorem dJ17_append_3_7 : decode cJ17_append_3 7 = .ok (.areturn, 1) := dk_176 (dk_at dksJ17_append_3_0 7 rfl rfl)
