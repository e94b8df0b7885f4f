set_option maxRecDepth 100000
abbrev cX9_init : ByteArray := prog_8_method_1_code
def yX9_init : MethodName := ⟨RX9, "<init>", "(LBridgeAuction;)V"⟩
def dkwX9_init_0 : List UInt8 := [42, 43, 181, 0, 3, 42, 183, 0, 9, 42, 2, 181, 0, 15, 42, 6, 188, 10, 181, 0, 19, 177]
abbrev dktX9_init_0 : List UInt8 := dkwX9_init_0 ++ []
theorem dksX9_init_0 : cX9_init.data.toList.drop 0 = dktX9_init_0 := by decide +kernel
theorem dX9_init_0 : decode cX9_init 0 = .ok (.aload_n 0, 1) := dk_42 (dk_at dksX9_init_0 0 rfl rfl)
theorem dX9_init_1 : decode cX9_init 1 = .ok (.aload_n 1, 1) := dk_43 (dk_at dksX9_init_0 1 rfl rfl)
theorem dX9_init_2 : decode cX9_init 2 = .ok (.putfield 3, 3) := dk_181 0 3 (dk_at dksX9_init_0 2 rfl rfl)
theorem dX9_init_5 : decode cX9_init 5 = .ok (.aload_n 0, 1) := dk_42 (dk_at dksX9_init_0 5 rfl rfl)
theorem dX9_init_6 : decode cX9_init 6 = .ok (.invokespecial 9, 3) := dk_183 0 9 (dk_at dksX9_init_0 6 rfl rfl)
theorem dX9_init_9 : decode cX9_init 9 = .ok (.aload_n 0, 1) := dk_42 (dk_at dksX9_init_0 9 rfl rfl)
theorem dX9_init_10 : decode cX9_init 10 = .ok (.iconst (-1), 1) := dk_2 (dk_at dksX9_init_0 10 rfl rfl)
theorem dX9_init_11 : decode cX9_init 11 = .ok (.putfield 15, 3) := dk_181 0 15 (dk_at dksX9_init_0 11 rfl rfl)
theorem dX9_init_14 : decode cX9_init 14 = .ok (.aload_n 0, 1) := dk_42 (dk_at dksX9_init_0 14 rfl rfl)
theorem dX9_init_15 : decode cX9_init 15 = .ok (.iconst 3, 1) := dk_6 (dk_at dksX9_init_0 15 rfl rfl)
theorem dX9_init_16 : decode cX9_init 16 = .ok (.newarray .int, 2) := dk_188_10 (dk_at dksX9_init_0 16 rfl rfl)
theorem dX9_init_18 : decode cX9_init 18 = .ok (.putfield 19, 3) := dk_181 0 19 (dk_at dksX9_init_0 18 rfl rfl)
theorem dX9_init_21 : decode cX9_init 21 = .ok (.return_, 1) := dk_177 (dk_at dksX9_init_0 21 rfl rfl)
abbrev cX9_next : ByteArray := prog_8_method_4_code
def yX9_next : MethodName := ⟨RX9, "next", "()Z"⟩
def dkwX9_next_1 : List UInt8 := [159, 0, 5, 3, 172, 42, 182, 0, 45, 154, 0, 11, 42, 42, 180, 0, 23, 181, 0, 15, 4, 172]
abbrev dktX9_next_1 : List UInt8 := dkwX9_next_1 ++ []
def dkwX9_next_0 : List UInt8 := [42, 182, 0, 41, 60, 42, 180, 0, 23, 42, 180, 0, 3, 180, 0, 26, 159, 0, 11, 42, 180, 0, 15, 2]
abbrev dktX9_next_0 : List UInt8 := dkwX9_next_0 ++ dktX9_next_1
theorem dksX9_next_0 : cX9_next.data.toList.drop 0 = dktX9_next_0 := by decide +kernel
theorem dksX9_next_1 : cX9_next.data.toList.drop 24 = dktX9_next_1 := dk_seg dksX9_next_0 24 rfl rfl
theorem dX9_next_0 : decode cX9_next 0 = .ok (.aload_n 0, 1) := dk_42 (dk_at dksX9_next_0 0 rfl rfl)
theorem dX9_next_1 : decode cX9_next 1 = .ok (.invokevirtual 41, 3) := dk_182 0 41 (dk_at dksX9_next_0 1 rfl rfl)
theorem dX9_next_4 : decode cX9_next 4 = .ok (.istore_n 1, 1) := dk_60 (dk_at dksX9_next_0 4 rfl rfl)
theorem dX9_next_5 : decode cX9_next 5 = .ok (.aload_n 0, 1) := dk_42 (dk_at dksX9_next_0 5 rfl rfl)
theorem dX9_next_6 : decode cX9_next 6 = .ok (.getfield 23, 3) := dk_180 0 23 (dk_at dksX9_next_0 6 rfl rfl)
theorem dX9_next_9 : decode cX9_next 9 = .ok (.aload_n 0, 1) := dk_42 (dk_at dksX9_next_0 9 rfl rfl)
theorem dX9_next_10 : decode cX9_next 10 = .ok (.getfield 3, 3) := dk_180 0 3 (dk_at dksX9_next_0 10 rfl rfl)
theorem dX9_next_13 : decode cX9_next 13 = .ok (.getfield 26, 3) := dk_180 0 26 (dk_at dksX9_next_0 13 rfl rfl)
theorem dX9_next_16 : decode cX9_next 16 = .ok (.if_icmp .eq 11, 3) := dk_159 0 11 (dk_at dksX9_next_0 16 rfl rfl)
theorem dX9_next_19 : decode cX9_next 19 = .ok (.aload_n 0, 1) := dk_42 (dk_at dksX9_next_0 19 rfl rfl)
theorem dX9_next_20 : decode cX9_next 20 = .ok (.getfield 15, 3) := dk_180 0 15 (dk_at dksX9_next_0 20 rfl rfl)
theorem dX9_next_23 : decode cX9_next 23 = .ok (.iconst (-1), 1) := dk_2 (dk_at dksX9_next_0 23 rfl rfl)
theorem dX9_next_24 : decode cX9_next 24 = .ok (.if_icmp .eq 5, 3) := dk_159 0 5 (dk_at dksX9_next_1 0 rfl rfl)
theorem dX9_next_27 : decode cX9_next 27 = .ok (.iconst 0, 1) := dk_3 (dk_at dksX9_next_1 3 rfl rfl)
theorem dX9_next_28 : decode cX9_next 28 = .ok (.ireturn, 1) := dk_172 (dk_at dksX9_next_1 4 rfl rfl)
theorem dX9_next_29 : decode cX9_next 29 = .ok (.aload_n 0, 1) := dk_42 (dk_at dksX9_next_1 5 rfl rfl)
theorem dX9_next_30 : decode cX9_next 30 = .ok (.invokevirtual 45, 3) := dk_182 0 45 (dk_at dksX9_next_1 6 rfl rfl)
theorem dX9_next_33 : decode cX9_next 33 = .ok (.ifCond .ne 11, 3) := dk_154 0 11 (dk_at dksX9_next_1 9 rfl rfl)
theorem dX9_next_36 : decode cX9_next 36 = .ok (.aload_n 0, 1) := dk_42 (dk_at dksX9_next_1 12 rfl rfl)
theorem dX9_next_37 : decode cX9_next 37 = .ok (.aload_n 0, 1) := dk_42 (dk_at dksX9_next_1 13 rfl rfl)
theorem dX9_next_38 : decode cX9_next 38 = .ok (.getfield 23, 3) := dk_180 0 23 (dk_at dksX9_next_1 14 rfl rfl)
theorem dX9_next_41 : decode cX9_next 41 = .ok (.putfield 15, 3) := dk_181 0 15 (dk_at dksX9_next_1 17 rfl rfl)
theorem dX9_next_44 : decode cX9_next 44 = .ok (.iconst 1, 1) := dk_4 (dk_at dksX9_next_1 20 rfl rfl)
theorem dX9_next_45 : decode cX9_next 45 = .ok (.ireturn, 1) := dk_172 (dk_at dksX9_next_1 21 rfl rfl)
abbrev cX9_spaces : ByteArray := prog_8_method_3_code
def yX9_spaces : MethodName := ⟨RX9, "spaces", "()Z"⟩
def dkwX9_spaces_1 : List UInt8 := [181, 0, 23, 167, 255, 235, 42, 180, 0, 23, 27, 164, 0, 7, 4, 167, 0, 4, 3, 172]
abbrev dktX9_spaces_1 : List UInt8 := dkwX9_spaces_1 ++ []
def dkwX9_spaces_0 : List UInt8 := [42, 180, 0, 23, 60, 42, 16, 32, 16, 32, 182, 0, 37, 153, 0, 16, 42, 89, 180, 0, 23, 4, 96]
abbrev dktX9_spaces_0 : List UInt8 := dkwX9_spaces_0 ++ dktX9_spaces_1
theorem dksX9_spaces_0 : cX9_spaces.data.toList.drop 0 = dktX9_spaces_0 := by decide +kernel
theorem dksX9_spaces_1 : cX9_spaces.data.toList.drop 23 = dktX9_spaces_1 := dk_seg dksX9_spaces_0 23 rfl rfl
theorem dX9_spaces_0 : decode cX9_spaces 0 = .ok (.aload_n 0, 1) := dk_42 (dk_at dksX9_spaces_0 0 rfl rfl)
theorem dX9_spaces_1 : decode cX9_spaces 1 = .ok (.getfield 23, 3) := dk_180 0 23 (dk_at dksX9_spaces_0 1 rfl rfl)
theorem dX9_spaces_4 : decode cX9_spaces 4 = .ok (.istore_n 1, 1) := dk_60 (dk_at dksX9_spaces_0 4 rfl rfl)
theorem dX9_spaces_5 : decode cX9_spaces 5 = .ok (.aload_n 0, 1) := dk_42 (dk_at dksX9_spaces_0 5 rfl rfl)
theorem dX9_spaces_6 : decode cX9_spaces 6 = .ok (.bipush 32, 2) := dk_16 32 (dk_at dksX9_spaces_0 6 rfl rfl)
theorem dX9_spaces_8 : decode cX9_spaces 8 = .ok (.bipush 32, 2) := dk_16 32 (dk_at dksX9_spaces_0 8 rfl rfl)
theorem dX9_spaces_10 : decode cX9_spaces 10 = .ok (.invokevirtual 37, 3) := dk_182 0 37 (dk_at dksX9_spaces_0 10 rfl rfl)
theorem dX9_spaces_13 : decode cX9_spaces 13 = .ok (.ifCond .eq 16, 3) := dk_153 0 16 (dk_at dksX9_spaces_0 13 rfl rfl)
theorem dX9_spaces_16 : decode cX9_spaces 16 = .ok (.aload_n 0, 1) := dk_42 (dk_at dksX9_spaces_0 16 rfl rfl)
theorem dX9_spaces_17 : decode cX9_spaces 17 = .ok (.dup, 1) := dk_89 (dk_at dksX9_spaces_0 17 rfl rfl)
theorem dX9_spaces_18 : decode cX9_spaces 18 = .ok (.getfield 23, 3) := dk_180 0 23 (dk_at dksX9_spaces_0 18 rfl rfl)
theorem dX9_spaces_21 : decode cX9_spaces 21 = .ok (.iconst 1, 1) := dk_4 (dk_at dksX9_spaces_0 21 rfl rfl)
theorem dX9_spaces_22 : decode cX9_spaces 22 = .ok (.iadd, 1) := dk_96 (dk_at dksX9_spaces_0 22 rfl rfl)
theorem dX9_spaces_23 : decode cX9_spaces 23 = .ok (.putfield 23, 3) := dk_181 0 23 (dk_at dksX9_spaces_1 0 rfl rfl)
theorem dX9_spaces_26 : decode cX9_spaces 26 = .ok (.goto (-21), 3) := dk_167 255 235 (dk_at dksX9_spaces_1 3 rfl rfl)
theorem dX9_spaces_29 : decode cX9_spaces 29 = .ok (.aload_n 0, 1) := dk_42 (dk_at dksX9_spaces_1 6 rfl rfl)
theorem dX9_spaces_30 : decode cX9_spaces 30 = .ok (.getfield 23, 3) := dk_180 0 23 (dk_at dksX9_spaces_1 7 rfl rfl)
theorem dX9_spaces_33 : decode cX9_spaces 33 = .ok (.iload_n 1, 1) := dk_27 (dk_at dksX9_spaces_1 10 rfl rfl)
theorem dX9_spaces_34 : decode cX9_spaces 34 = .ok (.if_icmp .le 7, 3) := dk_164 0 7 (dk_at dksX9_spaces_1 11 rfl rfl)
theorem dX9_spaces_37 : decode cX9_spaces 37 = .ok (.iconst 1, 1) := dk_4 (dk_at dksX9_spaces_1 14 rfl rfl)
theorem dX9_spaces_38 : decode cX9_spaces 38 = .ok (.goto 4, 3) := dk_167 0 4 (dk_at dksX9_spaces_1 15 rfl rfl)
theorem dX9_spaces_41 : decode cX9_spaces 41 = .ok (.iconst 0, 1) := dk_3 (dk_at dksX9_spaces_1 18 rfl rfl)
theorem dX9_spaces_42 : decode cX9_spaces 42 = .ok (.ireturn, 1) := dk_172 (dk_at dksX9_spaces_1 19 rfl rfl)
abbrev cX9_isAt : ByteArray := prog_8_method_2_code
def yX9_isAt : MethodName := ⟨RX9, "isAt", "(II)Z"⟩
def dkwX9_isAt_1 : List UInt8 := [180, 0, 23, 51, 133, 27, 133, 28, 133, 184, 0, 33, 153, 0, 7, 4, 167, 0, 4, 3, 172]
abbrev dktX9_isAt_1 : List UInt8 := dkwX9_isAt_1 ++ []
def dkwX9_isAt_0 : List UInt8 := [42, 180, 0, 23, 42, 180, 0, 3, 180, 0, 26, 162, 0, 30, 42, 180, 0, 3, 180, 0, 29, 42]
abbrev dktX9_isAt_0 : List UInt8 := dkwX9_isAt_0 ++ dktX9_isAt_1
theorem dksX9_isAt_0 : cX9_isAt.data.toList.drop 0 = dktX9_isAt_0 := by decide +kernel
theorem dksX9_isAt_1 : cX9_isAt.data.toList.drop 22 = dktX9_isAt_1 := dk_seg dksX9_isAt_0 22 rfl rfl
theorem dX9_isAt_0 : decode cX9_isAt 0 = .ok (.aload_n 0, 1) := dk_42 (dk_at dksX9_isAt_0 0 rfl rfl)
theorem dX9_isAt_1 : decode cX9_isAt 1 = .ok (.getfield 23, 3) := dk_180 0 23 (dk_at dksX9_isAt_0 1 rfl rfl)
theorem dX9_isAt_4 : decode cX9_isAt 4 = .ok (.aload_n 0, 1) := dk_42 (dk_at dksX9_isAt_0 4 rfl rfl)
theorem dX9_isAt_5 : decode cX9_isAt 5 = .ok (.getfield 3, 3) := dk_180 0 3 (dk_at dksX9_isAt_0 5 rfl rfl)
theorem dX9_isAt_8 : decode cX9_isAt 8 = .ok (.getfield 26, 3) := dk_180 0 26 (dk_at dksX9_isAt_0 8 rfl rfl)
theorem dX9_isAt_11 : decode cX9_isAt 11 = .ok (.if_icmp .ge 30, 3) := dk_162 0 30 (dk_at dksX9_isAt_0 11 rfl rfl)
theorem dX9_isAt_14 : decode cX9_isAt 14 = .ok (.aload_n 0, 1) := dk_42 (dk_at dksX9_isAt_0 14 rfl rfl)
theorem dX9_isAt_15 : decode cX9_isAt 15 = .ok (.getfield 3, 3) := dk_180 0 3 (dk_at dksX9_isAt_0 15 rfl rfl)
theorem dX9_isAt_18 : decode cX9_isAt 18 = .ok (.getfield 29, 3) := dk_180 0 29 (dk_at dksX9_isAt_0 18 rfl rfl)
theorem dX9_isAt_21 : decode cX9_isAt 21 = .ok (.aload_n 0, 1) := dk_42 (dk_at dksX9_isAt_0 21 rfl rfl)
theorem dX9_isAt_22 : decode cX9_isAt 22 = .ok (.getfield 23, 3) := dk_180 0 23 (dk_at dksX9_isAt_1 0 rfl rfl)
theorem dX9_isAt_25 : decode cX9_isAt 25 = .ok (.baload, 1) := dk_51 (dk_at dksX9_isAt_1 3 rfl rfl)
theorem dX9_isAt_26 : decode cX9_isAt 26 = .ok (.i2l, 1) := dk_133 (dk_at dksX9_isAt_1 4 rfl rfl)
theorem dX9_isAt_27 : decode cX9_isAt 27 = .ok (.iload_n 1, 1) := dk_27 (dk_at dksX9_isAt_1 5 rfl rfl)
theorem dX9_isAt_28 : decode cX9_isAt 28 = .ok (.i2l, 1) := dk_133 (dk_at dksX9_isAt_1 6 rfl rfl)
theorem dX9_isAt_29 : decode cX9_isAt 29 = .ok (.iload_n 2, 1) := dk_28 (dk_at dksX9_isAt_1 7 rfl rfl)
theorem dX9_isAt_30 : decode cX9_isAt 30 = .ok (.i2l, 1) := dk_133 (dk_at dksX9_isAt_1 8 rfl rfl)
theorem dX9_isAt_31 : decode cX9_isAt 31 = .ok (.invokestatic 33, 3) := dk_184 0 33 (dk_at dksX9_isAt_1 9 rfl rfl)
theorem dX9_isAt_34 : decode cX9_isAt 34 = .ok (.ifCond .eq 7, 3) := dk_153 0 7 (dk_at dksX9_isAt_1 12 rfl rfl)
theorem dX9_isAt_37 : decode cX9_isAt 37 = .ok (.iconst 1, 1) := dk_4 (dk_at dksX9_isAt_1 15 rfl rfl)
theorem dX9_isAt_38 : decode cX9_isAt 38 = .ok (.goto 4, 3) := dk_167 0 4 (dk_at dksX9_isAt_1 16 rfl rfl)
theorem dX9_isAt_41 : decode cX9_isAt 41 = .ok (.iconst 0, 1) := dk_3 (dk_at dksX9_isAt_1 19 rfl rfl)
theorem dX9_isAt_42 : decode cX9_isAt 42 = .ok (.ireturn, 1) := dk_172 (dk_at dksX9_isAt_1 20 rfl rfl)
abbrev cX9_readCommand : ByteArray := prog_8_method_5_code
def yX9_readCommand : MethodName := ⟨RX9, "readCommand", "()Z"⟩
def dkwX9_readCommand_6 : List UInt8 := [21, 5, 153, 0, 7, 4, 167, 0, 4, 3, 96, 181, 0, 23, 21, 5, 172]
abbrev dktX9_readCommand_6 : List UInt8 := dkwX9_readCommand_6 ++ []
def dkwX9_readCommand_5 : List UInt8 := [167, 255, 229, 42, 182, 0, 41, 54, 4, 42, 16, 59, 16, 59, 182, 0, 37, 54, 5, 42, 89, 180, 0, 23]
abbrev dktX9_readCommand_5 : List UInt8 := dkwX9_readCommand_5 ++ dktX9_readCommand_6
def dkwX9_readCommand_4 : List UInt8 := [162, 0, 27, 42, 182, 0, 41, 153, 0, 12, 42, 21, 4, 182, 0, 71, 154, 0, 5, 3, 172, 132, 4, 1]
abbrev dktX9_readCommand_4 : List UInt8 := dkwX9_readCommand_4 ++ dktX9_readCommand_5
def dkwX9_readCommand_3 : List UInt8 := [199, 0, 10, 42, 27, 181, 0, 23, 3, 172, 44, 182, 0, 55, 184, 0, 67, 62, 3, 54, 4, 21, 4, 29]
abbrev dktX9_readCommand_3 : List UInt8 := dkwX9_readCommand_3 ++ dktX9_readCommand_4
def dkwX9_readCommand_2 : List UInt8 := [96, 181, 0, 23, 167, 255, 217, 42, 44, 182, 0, 55, 184, 0, 59, 181, 0, 63, 42, 180, 0, 63]
abbrev dktX9_readCommand_2 : List UInt8 := dkwX9_readCommand_2 ++ dktX9_readCommand_3
def dkwX9_readCommand_1 : List UInt8 := [44, 42, 180, 0, 3, 180, 0, 29, 42, 180, 0, 23, 51, 146, 182, 0, 51, 87, 42, 89, 180, 0, 23, 4]
abbrev dktX9_readCommand_1 : List UInt8 := dkwX9_readCommand_1 ++ dktX9_readCommand_2
def dkwX9_readCommand_0 : List UInt8 := [42, 180, 0, 23, 60, 187, 0, 48, 89, 183, 0, 50, 77, 42, 16, 97, 16, 122, 182, 0, 37, 153, 0, 34]
abbrev dktX9_readCommand_0 : List UInt8 := dkwX9_readCommand_0 ++ dktX9_readCommand_1
theorem dksX9_readCommand_0 : cX9_readCommand.data.toList.drop 0 = dktX9_readCommand_0 := by decide +kernel
theorem dksX9_readCommand_1 : cX9_readCommand.data.toList.drop 24 = dktX9_readCommand_1 := dk_seg dksX9_readCommand_0 24 rfl rfl
theorem dksX9_readCommand_2 : cX9_readCommand.data.toList.drop 48 = dktX9_readCommand_2 := dk_seg dksX9_readCommand_1 24 rfl rfl
theorem dksX9_readCommand_3 : cX9_readCommand.data.toList.drop 70 = dktX9_readCommand_3 := dk_seg dksX9_readCommand_2 22 rfl rfl
theorem dksX9_readCommand_4 : cX9_readCommand.data.toList.drop 94 = dktX9_readCommand_4 := dk_seg dksX9_readCommand_3 24 rfl rfl
theorem dksX9_readCommand_5 : cX9_readCommand.data.toList.drop 118 = dktX9_readCommand_5 := dk_seg dksX9_readCommand_4 24 rfl rfl
theorem dksX9_readCommand_6 : cX9_readCommand.data.toList.drop 142 = dktX9_readCommand_6 := dk_seg dksX9_readCommand_5 24 rfl rfl
theorem dX9_readCommand_0 : decode cX9_readCommand 0 = .ok (.aload_n 0, 1) := dk_42 (dk_at dksX9_readCommand_0 0 rfl rfl)
theorem dX9_readCommand_1 : decode cX9_readCommand 1 = .ok (.getfield 23, 3) := dk_180 0 23 (dk_at dksX9_readCommand_0 1 rfl rfl)
theorem dX9_readCommand_4 : decode cX9_readCommand 4 = .ok (.istore_n 1, 1) := dk_60 (dk_at dksX9_readCommand_0 4 rfl rfl)
theorem dX9_readCommand_5 : decode cX9_readCommand 5 = .ok (.new 48, 3) := dk_187 0 48 (dk_at dksX9_readCommand_0 5 rfl rfl)
theorem dX9_readCommand_8 : decode cX9_readCommand 8 = .ok (.dup, 1) := dk_89 (dk_at dksX9_readCommand_0 8 rfl rfl)
theorem dX9_readCommand_9 : decode cX9_readCommand 9 = .ok (.invokespecial 50, 3) := dk_183 0 50 (dk_at dksX9_readCommand_0 9 rfl rfl)
theorem dX9_readCommand_12 : decode cX9_readCommand 12 = .ok (.astore_n 2, 1) := dk_77 (dk_at dksX9_readCommand_0 12 rfl rfl)
theorem dX9_readCommand_13 : decode cX9_readCommand 13 = .ok (.aload_n 0, 1) := dk_42 (dk_at dksX9_readCommand_0 13 rfl rfl)
theorem dX9_readCommand_14 : decode cX9_readCommand 14 = .ok (.bipush 97, 2) := dk_16 97 (dk_at dksX9_readCommand_0 14 rfl rfl)
theorem dX9_readCommand_16 : decode cX9_readCommand 16 = .ok (.bipush 122, 2) := dk_16 122 (dk_at dksX9_readCommand_0 16 rfl rfl)
theorem dX9_readCommand_18 : decode cX9_readCommand 18 = .ok (.invokevirtual 37, 3) := dk_182 0 37 (dk_at dksX9_readCommand_0 18 rfl rfl)
theorem dX9_readCommand_21 : decode cX9_readCommand 21 = .ok (.ifCond .eq 34, 3) := dk_153 0 34 (dk_at dksX9_readCommand_0 21 rfl rfl)
theorem dX9_readCommand_24 : decode cX9_readCommand 24 = .ok (.aload_n 2, 1) := dk_44 (dk_at dksX9_readCommand_1 0 rfl rfl)
theorem dX9_readCommand_25 : decode cX9_readCommand 25 = .ok (.aload_n 0, 1) := dk_42 (dk_at dksX9_readCommand_1 1 rfl rfl)
theorem dX9_readCommand_26 : decode cX9_readCommand 26 = .ok (.getfield 3, 3) := dk_180 0 3 (dk_at dksX9_readCommand_1 2 rfl rfl)
theorem dX9_readCommand_29 : decode cX9_readCommand 29 = .ok (.getfield 29, 3) := dk_180 0 29 (dk_at dksX9_readCommand_1 5 rfl rfl)
theorem dX9_readCommand_32 : decode cX9_readCommand 32 = .ok (.aload_n 0, 1) := dk_42 (dk_at dksX9_readCommand_1 8 rfl rfl)
theorem dX9_readCommand_33 : decode cX9_readCommand 33 = .ok (.getfield 23, 3) := dk_180 0 23 (dk_at dksX9_readCommand_1 9 rfl rfl)
theorem dX9_readCommand_36 : decode cX9_readCommand 36 = .ok (.baload, 1) := dk_51 (dk_at dksX9_readCommand_1 12 rfl rfl)
theorem dX9_readCommand_37 : decode cX9_readCommand 37 = .ok (.i2c, 1) := dk_146 (dk_at dksX9_readCommand_1 13 rfl rfl)
theorem dX9_readCommand_38 : decode cX9_readCommand 38 = .ok (.invokevirtual 51, 3) := dk_182 0 51 (dk_at dksX9_readCommand_1 14 rfl rfl)
theorem dX9_readCommand_41 : decode cX9_readCommand 41 = .ok (.pop, 1) := dk_87 (dk_at dksX9_readCommand_1 17 rfl rfl)
theorem dX9_readCommand_42 : decode cX9_readCommand 42 = .ok (.aload_n 0, 1) := dk_42 (dk_at dksX9_readCommand_1 18 rfl rfl)
theorem dX9_readCommand_43 : decode cX9_readCommand 43 = .ok (.dup, 1) := dk_89 (dk_at dksX9_readCommand_1 19 rfl rfl)
theorem dX9_readCommand_44 : decode cX9_readCommand 44 = .ok (.getfield 23, 3) := dk_180 0 23 (dk_at dksX9_readCommand_1 20 rfl rfl)
theorem dX9_readCommand_47 : decode cX9_readCommand 47 = .ok (.iconst 1, 1) := dk_4 (dk_at dksX9_readCommand_1 23 rfl rfl)
theorem dX9_readCommand_48 : decode cX9_readCommand 48 = .ok (.iadd, 1) := dk_96 (dk_at dksX9_readCommand_2 0 rfl rfl)
theorem dX9_readCommand_49 : decode cX9_readCommand 49 = .ok (.putfield 23, 3) := dk_181 0 23 (dk_at dksX9_readCommand_2 1 rfl rfl)
theorem dX9_readCommand_52 : decode cX9_readCommand 52 = .ok (.goto (-39), 3) := dk_167 255 217 (dk_at dksX9_readCommand_2 4 rfl rfl)
theorem dX9_readCommand_55 : decode cX9_readCommand 55 = .ok (.aload_n 0, 1) := dk_42 (dk_at dksX9_readCommand_2 7 rfl rfl)
theorem dX9_readCommand_56 : decode cX9_readCommand 56 = .ok (.aload_n 2, 1) := dk_44 (dk_at dksX9_readCommand_2 8 rfl rfl)
theorem dX9_readCommand_57 : decode cX9_readCommand 57 = .ok (.invokevirtual 55, 3) := dk_182 0 55 (dk_at dksX9_readCommand_2 9 rfl rfl)
theorem dX9_readCommand_60 : decode cX9_readCommand 60 = .ok (.invokestatic 59, 3) := dk_184 0 59 (dk_at dksX9_readCommand_2 12 rfl rfl)
theorem dX9_readCommand_63 : decode cX9_readCommand 63 = .ok (.putfield 63, 3) := dk_181 0 63 (dk_at dksX9_readCommand_2 15 rfl rfl)
theorem dX9_readCommand_66 : decode cX9_readCommand 66 = .ok (.aload_n 0, 1) := dk_42 (dk_at dksX9_readCommand_2 18 rfl rfl)
theorem dX9_readCommand_67 : decode cX9_readCommand 67 = .ok (.getfield 63, 3) := dk_180 0 63 (dk_at dksX9_readCommand_2 19 rfl rfl)
theorem dX9_readCommand_70 : decode cX9_readCommand 70 = .ok (.ifnonnull 10, 3) := dk_199 0 10 (dk_at dksX9_readCommand_3 0 rfl rfl)
theorem dX9_readCommand_73 : decode cX9_readCommand 73 = .ok (.aload_n 0, 1) := dk_42 (dk_at dksX9_readCommand_3 3 rfl rfl)
theorem dX9_readCommand_74 : decode cX9_readCommand 74 = .ok (.iload_n 1, 1) := dk_27 (dk_at dksX9_readCommand_3 4 rfl rfl)
theorem dX9_readCommand_75 : decode cX9_readCommand 75 = .ok (.putfield 23, 3) := dk_181 0 23 (dk_at dksX9_readCommand_3 5 rfl rfl)
theorem dX9_readCommand_78 : decode cX9_readCommand 78 = .ok (.iconst 0, 1) := dk_3 (dk_at dksX9_readCommand_3 8 rfl rfl)
theorem dX9_readCommand_79 : decode cX9_readCommand 79 = .ok (.ireturn, 1) := dk_172 (dk_at dksX9_readCommand_3 9 rfl rfl)
theorem dX9_readCommand_80 : decode cX9_readCommand 80 = .ok (.aload_n 2, 1) := dk_44 (dk_at dksX9_readCommand_3 10 rfl rfl)
theorem dX9_readCommand_81 : decode cX9_readCommand 81 = .ok (.invokevirtual 55, 3) := dk_182 0 55 (dk_at dksX9_readCommand_3 11 rfl rfl)
theorem dX9_readCommand_84 : decode cX9_readCommand 84 = .ok (.invokestatic 67, 3) := dk_184 0 67 (dk_at dksX9_readCommand_3 14 rfl rfl)
theorem dX9_readCommand_87 : decode cX9_readCommand 87 = .ok (.istore_n 3, 1) := dk_62 (dk_at dksX9_readCommand_3 17 rfl rfl)
theorem dX9_readCommand_88 : decode cX9_readCommand 88 = .ok (.iconst 0, 1) := dk_3 (dk_at dksX9_readCommand_3 18 rfl rfl)
theorem dX9_readCommand_89 : decode cX9_readCommand 89 = .ok (.istore 4, 2) := dk_54 4 (dk_at dksX9_readCommand_3 19 rfl rfl)
theorem dX9_readCommand_91 : decode cX9_readCommand 91 = .ok (.iload 4, 2) := dk_21 4 (dk_at dksX9_readCommand_3 21 rfl rfl)
theorem dX9_readCommand_93 : decode cX9_readCommand 93 = .ok (.iload_n 3, 1) := dk_29 (dk_at dksX9_readCommand_3 23 rfl rfl)
theorem dX9_readCommand_94 : decode cX9_readCommand 94 = .ok (.if_icmp .ge 27, 3) := dk_162 0 27 (dk_at dksX9_readCommand_4 0 rfl rfl)
theorem dX9_readCommand_97 : decode cX9_readCommand 97 = .ok (.aload_n 0, 1) := dk_42 (dk_at dksX9_readCommand_4 3 rfl rfl)
theorem dX9_readCommand_98 : decode cX9_readCommand 98 = .ok (.invokevirtual 41, 3) := dk_182 0 41 (dk_at dksX9_readCommand_4 4 rfl rfl)
theorem dX9_readCommand_101 : decode cX9_readCommand 101 = .ok (.ifCond .eq 12, 3) := dk_153 0 12 (dk_at dksX9_readCommand_4 7 rfl rfl)
theorem dX9_readCommand_104 : decode cX9_readCommand 104 = .ok (.aload_n 0, 1) := dk_42 (dk_at dksX9_readCommand_4 10 rfl rfl)
theorem dX9_readCommand_105 : decode cX9_readCommand 105 = .ok (.iload 4, 2) := dk_21 4 (dk_at dksX9_readCommand_4 11 rfl rfl)
theorem dX9_readCommand_107 : decode cX9_readCommand 107 = .ok (.invokevirtual 71, 3) := dk_182 0 71 (dk_at dksX9_readCommand_4 13 rfl rfl)
theorem dX9_readCommand_110 : decode cX9_readCommand 110 = .ok (.ifCond .ne 5, 3) := dk_154 0 5 (dk_at dksX9_readCommand_4 16 rfl rfl)
theorem dX9_readCommand_113 : decode cX9_readCommand 113 = .ok (.iconst 0, 1) := dk_3 (dk_at dksX9_readCommand_4 19 rfl rfl)
theorem dX9_readCommand_114 : decode cX9_readCommand 114 = .ok (.ireturn, 1) := dk_172 (dk_at dksX9_readCommand_4 20 rfl rfl)
theorem dX9_readCommand_115 : decode cX9_readCommand 115 = .ok (.iinc 4 1, 3) := dk_132 4 1 (dk_at dksX9_readCommand_4 21 rfl rfl)
theorem dX9_readCommand_118 : decode cX9_readCommand 118 = .ok (.goto (-27), 3) := dk_167 255 229 (dk_at dksX9_readCommand_5 0 rfl rfl)
theorem dX9_readCommand_121 : decode cX9_readCommand 121 = .ok (.aload_n 0, 1) := dk_42 (dk_at dksX9_readCommand_5 3 rfl rfl)
theorem dX9_readCommand_122 : decode cX9_readCommand 122 = .ok (.invokevirtual 41, 3) := dk_182 0 41 (dk_at dksX9_readCommand_5 4 rfl rfl)
theorem dX9_readCommand_125 : decode cX9_readCommand 125 = .ok (.istore 4, 2) := dk_54 4 (dk_at dksX9_readCommand_5 7 rfl rfl)
theorem dX9_readCommand_127 : decode cX9_readCommand 127 = .ok (.aload_n 0, 1) := dk_42 (dk_at dksX9_readCommand_5 9 rfl rfl)
theorem dX9_readCommand_128 : decode cX9_readCommand 128 = .ok (.bipush 59, 2) := dk_16 59 (dk_at dksX9_readCommand_5 10 rfl rfl)
theorem dX9_readCommand_130 : decode cX9_readCommand 130 = .ok (.bipush 59, 2) := dk_16 59 (dk_at dksX9_readCommand_5 12 rfl rfl)
theorem dX9_readCommand_132 : decode cX9_readCommand 132 = .ok (.invokevirtual 37, 3) := dk_182 0 37 (dk_at dksX9_readCommand_5 14 rfl rfl)
theorem dX9_readCommand_135 : decode cX9_readCommand 135 = .ok (.istore 5, 2) := dk_54 5 (dk_at dksX9_readCommand_5 17 rfl rfl)
theorem dX9_readCommand_137 : decode cX9_readCommand 137 = .ok (.aload_n 0, 1) := dk_42 (dk_at dksX9_readCommand_5 19 rfl rfl)
theorem dX9_readCommand_138 : decode cX9_readCommand 138 = .ok (.dup, 1) := dk_89 (dk_at dksX9_readCommand_5 20 rfl rfl)
theorem dX9_readCommand_139 : decode cX9_readCommand 139 = .ok (.getfield 23, 3) := dk_180 0 23 (dk_at dksX9_readCommand_5 21 rfl rfl)
theorem dX9_readCommand_142 : decode cX9_readCommand 142 = .ok (.iload 5, 2) := dk_21 5 (dk_at dksX9_readCommand_6 0 rfl rfl)
theorem dX9_readCommand_144 : decode cX9_readCommand 144 = .ok (.ifCond .eq 7, 3) := dk_153 0 7 (dk_at dksX9_readCommand_6 2 rfl rfl)
theorem dX9_readCommand_147 : decode cX9_readCommand 147 = .ok (.iconst 1, 1) := dk_4 (dk_at dksX9_readCommand_6 5 rfl rfl)
theorem dX9_readCommand_148 : decode cX9_readCommand 148 = .ok (.goto 4, 3) := dk_167 0 4 (dk_at dksX9_readCommand_6 6 rfl rfl)
theorem dX9_readCommand_151 : decode cX9_readCommand 151 = .ok (.iconst 0, 1) := dk_3 (dk_at dksX9_readCommand_6 9 rfl rfl)
theorem dX9_readCommand_152 : decode cX9_readCommand 152 = .ok (.iadd, 1) := dk_96 (dk_at dksX9_readCommand_6 10 rfl rfl)
theorem dX9_readCommand_153 : decode cX9_readCommand 153 = .ok (.putfield 23, 3) := dk_181 0 23 (dk_at dksX9_readCommand_6 11 rfl rfl)
theorem dX9_readCommand_156 : decode cX9_readCommand 156 = .ok (.iload 5, 2) := dk_21 5 (dk_at dksX9_readCommand_6 14 rfl rfl)
theorem dX9_readCommand_158 : decode cX9_readCommand 158 = .ok (.ireturn, 1) := dk_172 (dk_at dksX9_readCommand_6 16 rfl rfl)
abbrev cX9_readNumber : ByteArray := prog_8_method_6_code
def yX9_readNumber : MethodName := ⟨RX9, "readNumber", "(I)Z"⟩
def dkwX9_readNumber_4 : List UInt8 := [154, 0, 7, 4, 167, 0, 4, 3, 172]
abbrev dktX9_readNumber_4 : List UInt8 := dkwX9_readNumber_4 ++ []
def dkwX9_readNumber_3 : List UInt8 := [181, 0, 23, 167, 255, 194, 42, 180, 0, 23, 28, 164, 0, 18, 42, 16, 48, 16, 57, 182, 0, 37]
abbrev dktX9_readNumber_3 : List UInt8 := dkwX9_readNumber_3 ++ dktX9_readNumber_4
def dkwX9_readNumber_2 : List UInt8 := [180, 0, 3, 180, 0, 29, 42, 180, 0, 23, 51, 96, 16, 48, 100, 79, 42, 89, 180, 0, 23, 4, 96]
abbrev dktX9_readNumber_2 : List UInt8 := dkwX9_readNumber_2 ++ dktX9_readNumber_3
def dkwX9_readNumber_1 : List UInt8 := [180, 0, 23, 28, 7, 96, 162, 0, 47, 42, 180, 0, 19, 27, 16, 10, 42, 180, 0, 19, 27, 46, 104, 42]
abbrev dktX9_readNumber_1 : List UInt8 := dkwX9_readNumber_1 ++ dktX9_readNumber_2
def dkwX9_readNumber_0 : List UInt8 := [42, 180, 0, 23, 61, 42, 180, 0, 19, 27, 3, 79, 42, 16, 48, 16, 57, 182, 0, 37, 153, 0, 57, 42]
abbrev dktX9_readNumber_0 : List UInt8 := dkwX9_readNumber_0 ++ dktX9_readNumber_1
theorem dksX9_readNumber_0 : cX9_readNumber.data.toList.drop 0 = dktX9_readNumber_0 := by decide +kernel
theorem dksX9_readNumber_1 : cX9_readNumber.data.toList.drop 24 = dktX9_readNumber_1 := dk_seg dksX9_readNumber_0 24 rfl rfl
theorem dksX9_readNumber_2 : cX9_readNumber.data.toList.drop 48 = dktX9_readNumber_2 := dk_seg dksX9_readNumber_1 24 rfl rfl
theorem dksX9_readNumber_3 : cX9_readNumber.data.toList.drop 71 = dktX9_readNumber_3 := dk_seg dksX9_readNumber_2 23 rfl rfl
theorem dksX9_readNumber_4 : cX9_readNumber.data.toList.drop 93 = dktX9_readNumber_4 := dk_seg dksX9_readNumber_3 22 rfl rfl
theorem dX9_readNumber_0 : decode cX9_readNumber 0 = .ok (.aload_n 0, 1) := dk_42 (dk_at dksX9_readNumber_0 0 rfl rfl)
theorem dX9_readNumber_1 : decode cX9_readNumber 1 = .ok (.getfield 23, 3) := dk_180 0 23 (dk_at dksX9_readNumber_0 1 rfl rfl)
theorem dX9_readNumber_4 : decode cX9_readNumber 4 = .ok (.istore_n 2, 1) := dk_61 (dk_at dksX9_readNumber_0 4 rfl rfl)
theorem dX9_readNumber_5 : decode cX9_readNumber 5 = .ok (.aload_n 0, 1) := dk_42 (dk_at dksX9_readNumber_0 5 rfl rfl)
theorem dX9_readNumber_6 : decode cX9_readNumber 6 = .ok (.getfield 19, 3) := dk_180 0 19 (dk_at dksX9_readNumber_0 6 rfl rfl)
theorem dX9_readNumber_9 : decode cX9_readNumber 9 = .ok (.iload_n 1, 1) := dk_27 (dk_at dksX9_readNumber_0 9 rfl rfl)
theorem dX9_readNumber_10 : decode cX9_readNumber 10 = .ok (.iconst 0, 1) := dk_3 (dk_at dksX9_readNumber_0 10 rfl rfl)
theorem dX9_readNumber_11 : decode cX9_readNumber 11 = .ok (.iastore, 1) := dk_79 (dk_at dksX9_readNumber_0 11 rfl rfl)
theorem dX9_readNumber_12 : decode cX9_readNumber 12 = .ok (.aload_n 0, 1) := dk_42 (dk_at dksX9_readNumber_0 12 rfl rfl)
theorem dX9_readNumber_13 : decode cX9_readNumber 13 = .ok (.bipush 48, 2) := dk_16 48 (dk_at dksX9_readNumber_0 13 rfl rfl)
theorem dX9_readNumber_15 : decode cX9_readNumber 15 = .ok (.bipush 57, 2) := dk_16 57 (dk_at dksX9_readNumber_0 15 rfl rfl)
theorem dX9_readNumber_17 : decode cX9_readNumber 17 = .ok (.invokevirtual 37, 3) := dk_182 0 37 (dk_at dksX9_readNumber_0 17 rfl rfl)
theorem dX9_readNumber_20 : decode cX9_readNumber 20 = .ok (.ifCond .eq 57, 3) := dk_153 0 57 (dk_at dksX9_readNumber_0 20 rfl rfl)
theorem dX9_readNumber_23 : decode cX9_readNumber 23 = .ok (.aload_n 0, 1) := dk_42 (dk_at dksX9_readNumber_0 23 rfl rfl)
theorem dX9_readNumber_24 : decode cX9_readNumber 24 = .ok (.getfield 23, 3) := dk_180 0 23 (dk_at dksX9_readNumber_1 0 rfl rfl)
theorem dX9_readNumber_27 : decode cX9_readNumber 27 = .ok (.iload_n 2, 1) := dk_28 (dk_at dksX9_readNumber_1 3 rfl rfl)
theorem dX9_readNumber_28 : decode cX9_readNumber 28 = .ok (.iconst 4, 1) := dk_7 (dk_at dksX9_readNumber_1 4 rfl rfl)
theorem dX9_readNumber_29 : decode cX9_readNumber 29 = .ok (.iadd, 1) := dk_96 (dk_at dksX9_readNumber_1 5 rfl rfl)
theorem dX9_readNumber_30 : decode cX9_readNumber 30 = .ok (.if_icmp .ge 47, 3) := dk_162 0 47 (dk_at dksX9_readNumber_1 6 rfl rfl)
theorem dX9_readNumber_33 : decode cX9_readNumber 33 = .ok (.aload_n 0, 1) := dk_42 (dk_at dksX9_readNumber_1 9 rfl rfl)
theorem dX9_readNumber_34 : decode cX9_readNumber 34 = .ok (.getfield 19, 3) := dk_180 0 19 (dk_at dksX9_readNumber_1 10 rfl rfl)
theorem dX9_readNumber_37 : decode cX9_readNumber 37 = .ok (.iload_n 1, 1) := dk_27 (dk_at dksX9_readNumber_1 13 rfl rfl)
theorem dX9_readNumber_38 : decode cX9_readNumber 38 = .ok (.bipush 10, 2) := dk_16 10 (dk_at dksX9_readNumber_1 14 rfl rfl)
theorem dX9_readNumber_40 : decode cX9_readNumber 40 = .ok (.aload_n 0, 1) := dk_42 (dk_at dksX9_readNumber_1 16 rfl rfl)
theorem dX9_readNumber_41 : decode cX9_readNumber 41 = .ok (.getfield 19, 3) := dk_180 0 19 (dk_at dksX9_readNumber_1 17 rfl rfl)
theorem dX9_readNumber_44 : decode cX9_readNumber 44 = .ok (.iload_n 1, 1) := dk_27 (dk_at dksX9_readNumber_1 20 rfl rfl)
theorem dX9_readNumber_45 : decode cX9_readNumber 45 = .ok (.iaload, 1) := dk_46 (dk_at dksX9_readNumber_1 21 rfl rfl)
theorem dX9_readNumber_46 : decode cX9_readNumber 46 = .ok (.imul, 1) := dk_104 (dk_at dksX9_readNumber_1 22 rfl rfl)
theorem dX9_readNumber_47 : decode cX9_readNumber 47 = .ok (.aload_n 0, 1) := dk_42 (dk_at dksX9_readNumber_1 23 rfl rfl)
theorem dX9_readNumber_48 : decode cX9_readNumber 48 = .ok (.getfield 3, 3) := dk_180 0 3 (dk_at dksX9_readNumber_2 0 rfl rfl)
theorem dX9_readNumber_51 : decode cX9_readNumber 51 = .ok (.getfield 29, 3) := dk_180 0 29 (dk_at dksX9_readNumber_2 3 rfl rfl)
theorem dX9_readNumber_54 : decode cX9_readNumber 54 = .ok (.aload_n 0, 1) := dk_42 (dk_at dksX9_readNumber_2 6 rfl rfl)
theorem dX9_readNumber_55 : decode cX9_readNumber 55 = .ok (.getfield 23, 3) := dk_180 0 23 (dk_at dksX9_readNumber_2 7 rfl rfl)
theorem dX9_readNumber_58 : decode cX9_readNumber 58 = .ok (.baload, 1) := dk_51 (dk_at dksX9_readNumber_2 10 rfl rfl)
theorem dX9_readNumber_59 : decode cX9_readNumber 59 = .ok (.iadd, 1) := dk_96 (dk_at dksX9_readNumber_2 11 rfl rfl)
theorem dX9_readNumber_60 : decode cX9_readNumber 60 = .ok (.bipush 48, 2) := dk_16 48 (dk_at dksX9_readNumber_2 12 rfl rfl)
theorem dX9_readNumber_62 : decode cX9_readNumber 62 = .ok (.isub, 1) := dk_100 (dk_at dksX9_readNumber_2 14 rfl rfl)
theorem dX9_readNumber_63 : decode cX9_readNumber 63 = .ok (.iastore, 1) := dk_79 (dk_at dksX9_readNumber_2 15 rfl rfl)
theorem dX9_readNumber_64 : decode cX9_readNumber 64 = .ok (.aload_n 0, 1) := dk_42 (dk_at dksX9_readNumber_2 16 rfl rfl)
theorem dX9_readNumber_65 : decode cX9_readNumber 65 = .ok (.dup, 1) := dk_89 (dk_at dksX9_readNumber_2 17 rfl rfl)
theorem dX9_readNumber_66 : decode cX9_readNumber 66 = .ok (.getfield 23, 3) := dk_180 0 23 (dk_at dksX9_readNumber_2 18 rfl rfl)
theorem dX9_readNumber_69 : decode cX9_readNumber 69 = .ok (.iconst 1, 1) := dk_4 (dk_at dksX9_readNumber_2 21 rfl rfl)
theorem dX9_readNumber_70 : decode cX9_readNumber 70 = .ok (.iadd, 1) := dk_96 (dk_at dksX9_readNumber_2 22 rfl rfl)
theorem dX9_readNumber_71 : decode cX9_readNumber 71 = .ok (.putfield 23, 3) := dk_181 0 23 (dk_at dksX9_readNumber_3 0 rfl rfl)
theorem dX9_readNumber_74 : decode cX9_readNumber 74 = .ok (.goto (-62), 3) := dk_167 255 194 (dk_at dksX9_readNumber_3 3 rfl rfl)
theorem dX9_readNumber_77 : decode cX9_readNumber 77 = .ok (.aload_n 0, 1) := dk_42 (dk_at dksX9_readNumber_3 6 rfl rfl)
theorem dX9_readNumber_78 : decode cX9_readNumber 78 = .ok (.getfield 23, 3) := dk_180 0 23 (dk_at dksX9_readNumber_3 7 rfl rfl)
theorem dX9_readNumber_81 : decode cX9_readNumber 81 = .ok (.iload_n 2, 1) := dk_28 (dk_at dksX9_readNumber_3 10 rfl rfl)
theorem dX9_readNumber_82 : decode cX9_readNumber 82 = .ok (.if_icmp .le 18, 3) := dk_164 0 18 (dk_at dksX9_readNumber_3 11 rfl rfl)
theorem dX9_readNumber_85 : decode cX9_readNumber 85 = .ok (.aload_n 0, 1) := dk_42 (dk_at dksX9_readNumber_3 14 rfl rfl)
theorem dX9_readNumber_86 : decode cX9_readNumber 86 = .ok (.bipush 48, 2) := dk_16 48 (dk_at dksX9_readNumber_3 15 rfl rfl)
theorem dX9_readNumber_88 : decode cX9_readNumber 88 = .ok (.bipush 57, 2) := dk_16 57 (dk_at dksX9_readNumber_3 17 rfl rfl)
theorem dX9_readNumber_90 : decode cX9_readNumber 90 = .ok (.invokevirtual 37, 3) := dk_182 0 37 (dk_at dksX9_readNumber_3 19 rfl rfl)
theorem dX9_readNumber_93 : decode cX9_readNumber 93 = .ok (.ifCond .ne 7, 3) := dk_154 0 7 (dk_at dksX9_readNumber_4 0 rfl rfl)
theorem dX9_readNumber_96 : decode cX9_readNumber 96 = .ok (.iconst 1, 1) := dk_4 (dk_at dksX9_readNumber_4 3 rfl rfl)
theorem dX9_readNumber_97 : decode cX9_readNumber 97 = .ok (.goto 4, 3) := dk_167 0 4 (dk_at dksX9_readNumber_4 4 rfl rfl)
theorem dX9_readNumber_100 : decode cX9_readNumber 100 = .ok (.iconst 0, 1) := dk_3 (dk_at dksX9_readNumber_4 7 rfl rfl)
theorem dX9_readNumber_101 : decode cX9_readNumber 101 = .ok (.ireturn, 1) := dk_172 (dk_at dksX9_readNumber_4 8 rfl rfl)
