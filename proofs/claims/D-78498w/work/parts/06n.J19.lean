set_option maxRecDepth 100000
abbrev cJ19_canEncode : ByteArray := prog_30_method_3_code
def yJ19_canEncode : MethodName := ⟨RJ19, "canEncode", "(C)Z"⟩
def dkwJ19_canEncode_0 : List UInt8 := [26, 17, 0, 255, 163, 0, 7, 4, 167, 0, 4, 3, 172]
abbrev dktJ19_canEncode_0 : List UInt8 := dkwJ19_canEncode_0 ++ []
theorem dksJ19_canEncode_0 : cJ19_canEncode.data.toList.drop 0 = dktJ19_canEncode_0 := by decide +kernel
theorem dJ19_canEncode_0 : decode cJ19_canEncode 0 = .ok (.iload_n 0, 1) := dk_26 (dk_at dksJ19_canEncode_0 0 rfl rfl)
theorem dJ19_canEncode_1 : decode cJ19_canEncode 1 = .ok (.sipush 255, 3) := dk_17 0 255 (dk_at dksJ19_canEncode_0 1 rfl rfl)
theorem dJ19_canEncode_4 : decode cJ19_canEncode 4 = .ok (.if_icmp .gt 7, 3) := dk_163 0 7 (dk_at dksJ19_canEncode_0 4 rfl rfl)
theorem dJ19_canEncode_7 : decode cJ19_canEncode 7 = .ok (.iconst 1, 1) := dk_4 (dk_at dksJ19_canEncode_0 7 rfl rfl)
theorem dJ19_canEncode_8 : decode cJ19_canEncode 8 = .ok (.goto 4, 3) := dk_167 0 4 (dk_at dksJ19_canEncode_0 8 rfl rfl)
theorem dJ19_canEncode_11 : decode cJ19_canEncode 11 = .ok (.iconst 0, 1) := dk_3 (dk_at dksJ19_canEncode_0 11 rfl rfl)
theorem dJ19_canEncode_12 : decode cJ19_canEncode 12 = .ok (.ireturn, 1) := dk_172 (dk_at dksJ19_canEncode_0 12 rfl rfl)
abbrev cJ19_inflate : ByteArray := prog_30_method_50_code
def yJ19_inflate : MethodName := ⟨RJ19, "inflate", "([BI[BII)V"⟩
def dkwJ19_inflate_0 : List UInt8 := [42, 27, 44, 29, 21, 4, 184, 0, 240, 177]
abbrev dktJ19_inflate_0 : List UInt8 := dkwJ19_inflate_0 ++ []
theorem dksJ19_inflate_0 : cJ19_inflate.data.toList.drop 0 = dktJ19_inflate_0 := by decide +kernel
theorem dJ19_inflate_0 : decode cJ19_inflate 0 = .ok (.aload_n 0, 1) := dk_42 (dk_at dksJ19_inflate_0 0 rfl rfl)
theorem dJ19_inflate_1 : decode cJ19_inflate 1 = .ok (.iload_n 1, 1) := dk_27 (dk_at dksJ19_inflate_0 1 rfl rfl)
theorem dJ19_inflate_2 : decode cJ19_inflate 2 = .ok (.aload_n 2, 1) := dk_44 (dk_at dksJ19_inflate_0 2 rfl rfl)
theorem dJ19_inflate_3 : decode cJ19_inflate 3 = .ok (.iload_n 3, 1) := dk_29 (dk_at dksJ19_inflate_0 3 rfl rfl)
theorem dJ19_inflate_4 : decode cJ19_inflate 4 = .ok (.iload 4, 2) := dk_21 4 (dk_at dksJ19_inflate_0 4 rfl rfl)
theorem dJ19_inflate_6 : decode cJ19_inflate 6 = .ok (.invokestatic 240, 3) := dk_184 0 240 (dk_at dksJ19_inflate_0 6 rfl rfl)
theorem dJ19_inflate_9 : decode cJ19_inflate 9 = .ok (.return_, 1) := dk_177 (dk_at dksJ19_inflate_0 9 rfl rfl)
abbrev cJ19_hashCode : ByteArray := prog_30_method_21_code
def yJ19_hashCode : MethodName := ⟨RJ19, "hashCode", "([B)I"⟩
def dkwJ19_hashCode_2 : List UInt8 := [3, 167, 0, 22, 42, 3, 51, 17, 0, 255, 126, 167, 0, 12, 42, 3, 42, 190, 3, 7, 184, 0, 84, 172]
abbrev dktJ19_hashCode_2 : List UInt8 := dkwJ19_hashCode_2 ++ []
def dkwJ19_hashCode_1 : List UInt8 := [171, 0, 0, 0, 0, 40, 0, 0, 0, 2, 0, 0, 0, 0, 0, 0, 0, 26, 0, 0, 0, 1, 0, 0, 0, 30]
abbrev dktJ19_hashCode_1 : List UInt8 := dkwJ19_hashCode_1 ++ dktJ19_hashCode_2
def dkwJ19_hashCode_0 : List UInt8 := [42, 190]
abbrev dktJ19_hashCode_0 : List UInt8 := dkwJ19_hashCode_0 ++ dktJ19_hashCode_1
theorem dksJ19_hashCode_0 : cJ19_hashCode.data.toList.drop 0 = dktJ19_hashCode_0 := by decide +kernel
theorem dksJ19_hashCode_1 : cJ19_hashCode.data.toList.drop 2 = dktJ19_hashCode_1 := dk_seg dksJ19_hashCode_0 2 rfl rfl
theorem dksJ19_hashCode_2 : cJ19_hashCode.data.toList.drop 28 = dktJ19_hashCode_2 := dk_seg dksJ19_hashCode_1 26 rfl rfl
theorem dJ19_hashCode_0 : decode cJ19_hashCode 0 = .ok (.aload_n 0, 1) := dk_42 (dk_at dksJ19_hashCode_0 0 rfl rfl)
theorem dJ19_hashCode_1 : decode cJ19_hashCode 1 = .ok (.arraylength, 1) := dk_190 (dk_at dksJ19_hashCode_0 1 rfl rfl)
theorem dJ19_hashCode_2 : decode cJ19_hashCode 2 = .ok (.lookupswitch 40 #[(0, 26), (1, 30)], 26) := by decide +kernel
theorem dJ19_hashCode_28 : decode cJ19_hashCode 28 = .ok (.iconst 0, 1) := dk_3 (dk_at dksJ19_hashCode_2 0 rfl rfl)
theorem dJ19_hashCode_29 : decode cJ19_hashCode 29 = .ok (.goto 22, 3) := dk_167 0 22 (dk_at dksJ19_hashCode_2 1 rfl rfl)
theorem dJ19_hashCode_32 : decode cJ19_hashCode 32 = .ok (.aload_n 0, 1) := dk_42 (dk_at dksJ19_hashCode_2 4 rfl rfl)
theorem dJ19_hashCode_33 : decode cJ19_hashCode 33 = .ok (.iconst 0, 1) := dk_3 (dk_at dksJ19_hashCode_2 5 rfl rfl)
theorem dJ19_hashCode_34 : decode cJ19_hashCode 34 = .ok (.baload, 1) := dk_51 (dk_at dksJ19_hashCode_2 6 rfl rfl)
theorem dJ19_hashCode_35 : decode cJ19_hashCode 35 = .ok (.sipush 255, 3) := dk_17 0 255 (dk_at dksJ19_hashCode_2 7 rfl rfl)
theorem dJ19_hashCode_38 : decode cJ19_hashCode 38 = .ok (.iand, 1) := dk_126 (dk_at dksJ19_hashCode_2 10 rfl rfl)
theorem dJ19_hashCode_39 : decode cJ19_hashCode 39 = .ok (.goto 12, 3) := dk_167 0 12 (dk_at dksJ19_hashCode_2 11 rfl rfl)
theorem dJ19_hashCode_42 : decode cJ19_hashCode 42 = .ok (.aload_n 0, 1) := dk_42 (dk_at dksJ19_hashCode_2 14 rfl rfl)
theorem dJ19_hashCode_43 : decode cJ19_hashCode 43 = .ok (.iconst 0, 1) := dk_3 (dk_at dksJ19_hashCode_2 15 rfl rfl)
theorem dJ19_hashCode_44 : decode cJ19_hashCode 44 = .ok (.aload_n 0, 1) := dk_42 (dk_at dksJ19_hashCode_2 16 rfl rfl)
theorem dJ19_hashCode_45 : decode cJ19_hashCode 45 = .ok (.arraylength, 1) := dk_190 (dk_at dksJ19_hashCode_2 17 rfl rfl)
theorem dJ19_hashCode_46 : decode cJ19_hashCode 46 = .ok (.iconst 0, 1) := dk_3 (dk_at dksJ19_hashCode_2 18 rfl rfl)
theorem dJ19_hashCode_47 : decode cJ19_hashCode 47 = .ok (.iconst 4, 1) := dk_7 (dk_at dksJ19_hashCode_2 19 rfl rfl)
theorem dJ19_hashCode_48 : decode cJ19_hashCode 48 = .ok (.invokestatic 84, 3) := dk_184 0 84 (dk_at dksJ19_hashCode_2 20 rfl rfl)
theorem dJ19_hashCode_51 : decode cJ19_hashCode 51 = .ok (.ireturn, 1) := dk_172 (dk_at dksJ19_hashCode_2 23 rfl rfl)
abbrev cJ19_equals : ByteArray := prog_30_method_13_code
def yJ19_equals : MethodName := ⟨RJ19, "equals", "([B[B)Z"⟩
def dkwJ19_equals_1 : List UInt8 := [3, 172, 132, 2, 1, 167, 255, 236, 4, 172, 3, 172]
abbrev dktJ19_equals_1 : List UInt8 := dkwJ19_equals_1 ++ []
def dkwJ19_equals_0 : List UInt8 := [42, 190, 43, 190, 160, 0, 30, 3, 61, 28, 42, 190, 162, 0, 20, 42, 28, 51, 43, 28, 51, 159, 0, 5]
abbrev dktJ19_equals_0 : List UInt8 := dkwJ19_equals_0 ++ dktJ19_equals_1
theorem dksJ19_equals_0 : cJ19_equals.data.toList.drop 0 = dktJ19_equals_0 := by decide +kernel
theorem dksJ19_equals_1 : cJ19_equals.data.toList.drop 24 = dktJ19_equals_1 := dk_seg dksJ19_equals_0 24 rfl rfl
theorem dJ19_equals_0 : decode cJ19_equals 0 = .ok (.aload_n 0, 1) := dk_42 (dk_at dksJ19_equals_0 0 rfl rfl)
theorem dJ19_equals_1 : decode cJ19_equals 1 = .ok (.arraylength, 1) := dk_190 (dk_at dksJ19_equals_0 1 rfl rfl)
theorem dJ19_equals_2 : decode cJ19_equals 2 = .ok (.aload_n 1, 1) := dk_43 (dk_at dksJ19_equals_0 2 rfl rfl)
theorem dJ19_equals_3 : decode cJ19_equals 3 = .ok (.arraylength, 1) := dk_190 (dk_at dksJ19_equals_0 3 rfl rfl)
theorem dJ19_equals_4 : decode cJ19_equals 4 = .ok (.if_icmp .ne 30, 3) := dk_160 0 30 (dk_at dksJ19_equals_0 4 rfl rfl)
theorem dJ19_equals_7 : decode cJ19_equals 7 = .ok (.iconst 0, 1) := dk_3 (dk_at dksJ19_equals_0 7 rfl rfl)
theorem dJ19_equals_8 : decode cJ19_equals 8 = .ok (.istore_n 2, 1) := dk_61 (dk_at dksJ19_equals_0 8 rfl rfl)
theorem dJ19_equals_9 : decode cJ19_equals 9 = .ok (.iload_n 2, 1) := dk_28 (dk_at dksJ19_equals_0 9 rfl rfl)
theorem dJ19_equals_10 : decode cJ19_equals 10 = .ok (.aload_n 0, 1) := dk_42 (dk_at dksJ19_equals_0 10 rfl rfl)
theorem dJ19_equals_11 : decode cJ19_equals 11 = .ok (.arraylength, 1) := dk_190 (dk_at dksJ19_equals_0 11 rfl rfl)
theorem dJ19_equals_12 : decode cJ19_equals 12 = .ok (.if_icmp .ge 20, 3) := dk_162 0 20 (dk_at dksJ19_equals_0 12 rfl rfl)
theorem dJ19_equals_15 : decode cJ19_equals 15 = .ok (.aload_n 0, 1) := dk_42 (dk_at dksJ19_equals_0 15 rfl rfl)
theorem dJ19_equals_16 : decode cJ19_equals 16 = .ok (.iload_n 2, 1) := dk_28 (dk_at dksJ19_equals_0 16 rfl rfl)
theorem dJ19_equals_17 : decode cJ19_equals 17 = .ok (.baload, 1) := dk_51 (dk_at dksJ19_equals_0 17 rfl rfl)
theorem dJ19_equals_18 : decode cJ19_equals 18 = .ok (.aload_n 1, 1) := dk_43 (dk_at dksJ19_equals_0 18 rfl rfl)
theorem dJ19_equals_19 : decode cJ19_equals 19 = .ok (.iload_n 2, 1) := dk_28 (dk_at dksJ19_equals_0 19 rfl rfl)
theorem dJ19_equals_20 : decode cJ19_equals 20 = .ok (.baload, 1) := dk_51 (dk_at dksJ19_equals_0 20 rfl rfl)
theorem dJ19_equals_21 : decode cJ19_equals 21 = .ok (.if_icmp .eq 5, 3) := dk_159 0 5 (dk_at dksJ19_equals_0 21 rfl rfl)
theorem dJ19_equals_24 : decode cJ19_equals 24 = .ok (.iconst 0, 1) := dk_3 (dk_at dksJ19_equals_1 0 rfl rfl)
theorem dJ19_equals_25 : decode cJ19_equals 25 = .ok (.ireturn, 1) := dk_172 (dk_at dksJ19_equals_1 1 rfl rfl)
theorem dJ19_equals_26 : decode cJ19_equals 26 = .ok (.iinc 2 1, 3) := dk_132 2 1 (dk_at dksJ19_equals_1 2 rfl rfl)
theorem dJ19_equals_29 : decode cJ19_equals 29 = .ok (.goto (-20), 3) := dk_167 255 236 (dk_at dksJ19_equals_1 5 rfl rfl)
theorem dJ19_equals_32 : decode cJ19_equals 32 = .ok (.iconst 1, 1) := dk_4 (dk_at dksJ19_equals_1 8 rfl rfl)
theorem dJ19_equals_33 : decode cJ19_equals 33 = .ok (.ireturn, 1) := dk_172 (dk_at dksJ19_equals_1 9 rfl rfl)
theorem dJ19_equals_34 : decode cJ19_equals 34 = .ok (.iconst 0, 1) := dk_3 (dk_at dksJ19_equals_1 10 rfl rfl)
theorem dJ19_equals_35 : decode cJ19_equals 35 = .ok (.ireturn, 1) := dk_172 (dk_at dksJ19_equals_1 11 rfl rfl)
