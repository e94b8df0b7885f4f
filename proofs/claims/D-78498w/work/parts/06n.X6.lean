set_option maxRecDepth 100000
abbrev cX6_carries : ByteArray := prog_4_method_5_code
def yX6_carries : MethodName := ⟨RX6, "carries", "()Z"⟩
def dkwX6_carries_1 : List UInt8 := [180, 0, 73, 6, 160, 0, 7, 4, 167, 0, 4, 3, 172]
abbrev dktX6_carries_1 : List UInt8 := dkwX6_carries_1 ++ []
def dkwX6_carries_0 : List UInt8 := [42, 180, 0, 9, 153, 0, 29, 42, 180, 0, 26, 180, 0, 73, 6, 160, 0, 18, 42, 180, 0, 30]
abbrev dktX6_carries_0 : List UInt8 := dkwX6_carries_0 ++ dktX6_carries_1
theorem dksX6_carries_0 : cX6_carries.data.toList.drop 0 = dktX6_carries_0 := by decide +kernel
theorem dksX6_carries_1 : cX6_carries.data.toList.drop 22 = dktX6_carries_1 := dk_seg dksX6_carries_0 22 rfl rfl
theorem dX6_carries_0 : decode cX6_carries 0 = .ok (.aload_n 0, 1) := dk_42 (dk_at dksX6_carries_0 0 rfl rfl)
theorem dX6_carries_1 : decode cX6_carries 1 = .ok (.getfield 9, 3) := dk_180 0 9 (dk_at dksX6_carries_0 1 rfl rfl)
theorem dX6_carries_4 : decode cX6_carries 4 = .ok (.ifCond .eq 29, 3) := dk_153 0 29 (dk_at dksX6_carries_0 4 rfl rfl)
theorem dX6_carries_7 : decode cX6_carries 7 = .ok (.aload_n 0, 1) := dk_42 (dk_at dksX6_carries_0 7 rfl rfl)
theorem dX6_carries_8 : decode cX6_carries 8 = .ok (.getfield 26, 3) := dk_180 0 26 (dk_at dksX6_carries_0 8 rfl rfl)
theorem dX6_carries_11 : decode cX6_carries 11 = .ok (.getfield 73, 3) := dk_180 0 73 (dk_at dksX6_carries_0 11 rfl rfl)
theorem dX6_carries_14 : decode cX6_carries 14 = .ok (.iconst 3, 1) := dk_6 (dk_at dksX6_carries_0 14 rfl rfl)
theorem dX6_carries_15 : decode cX6_carries 15 = .ok (.if_icmp .ne 18, 3) := dk_160 0 18 (dk_at dksX6_carries_0 15 rfl rfl)
theorem dX6_carries_18 : decode cX6_carries 18 = .ok (.aload_n 0, 1) := dk_42 (dk_at dksX6_carries_0 18 rfl rfl)
theorem dX6_carries_19 : decode cX6_carries 19 = .ok (.getfield 30, 3) := dk_180 0 30 (dk_at dksX6_carries_0 19 rfl rfl)
theorem dX6_carries_22 : decode cX6_carries 22 = .ok (.getfield 73, 3) := dk_180 0 73 (dk_at dksX6_carries_1 0 rfl rfl)
theorem dX6_carries_25 : decode cX6_carries 25 = .ok (.iconst 3, 1) := dk_6 (dk_at dksX6_carries_1 3 rfl rfl)
theorem dX6_carries_26 : decode cX6_carries 26 = .ok (.if_icmp .ne 7, 3) := dk_160 0 7 (dk_at dksX6_carries_1 4 rfl rfl)
theorem dX6_carries_29 : decode cX6_carries 29 = .ok (.iconst 1, 1) := dk_4 (dk_at dksX6_carries_1 7 rfl rfl)
theorem dX6_carries_30 : decode cX6_carries 30 = .ok (.goto 4, 3) := dk_167 0 4 (dk_at dksX6_carries_1 8 rfl rfl)
theorem dX6_carries_33 : decode cX6_carries 33 = .ok (.iconst 0, 1) := dk_3 (dk_at dksX6_carries_1 11 rfl rfl)
theorem dX6_carries_34 : decode cX6_carries 34 = .ok (.ireturn, 1) := dk_172 (dk_at dksX6_carries_1 12 rfl rfl)
abbrev cX6_init : ByteArray := prog_4_method_1_code
def yX6_init : MethodName := ⟨RX6, "<init>", "(III)V"⟩
def dkwX6_init_3 : List UInt8 := [181, 0, 51, 177]
abbrev dktX6_init_3 : List UInt8 := dkwX6_init_3 ++ []
def dkwX6_init_2 : List UInt8 := [184, 0, 33, 181, 0, 39, 42, 27, 28, 184, 0, 42, 181, 0, 45, 42, 29, 181, 0, 48, 42, 29]
abbrev dktX6_init_2 : List UInt8 := dkwX6_init_2 ++ dktX6_init_3
def dkwX6_init_1 : List UInt8 := [187, 0, 23, 89, 183, 0, 25, 181, 0, 26, 42, 187, 0, 23, 89, 183, 0, 25, 181, 0, 30, 42, 27, 28]
abbrev dktX6_init_1 : List UInt8 := dkwX6_init_1 ++ dktX6_init_2
def dkwX6_init_0 : List UInt8 := [42, 183, 0, 3, 42, 4, 181, 0, 9, 42, 2, 181, 0, 15, 42, 7, 188, 10, 181, 0, 19, 42]
abbrev dktX6_init_0 : List UInt8 := dkwX6_init_0 ++ dktX6_init_1
theorem dksX6_init_0 : cX6_init.data.toList.drop 0 = dktX6_init_0 := by decide +kernel
theorem dksX6_init_1 : cX6_init.data.toList.drop 22 = dktX6_init_1 := dk_seg dksX6_init_0 22 rfl rfl
theorem dksX6_init_2 : cX6_init.data.toList.drop 46 = dktX6_init_2 := dk_seg dksX6_init_1 24 rfl rfl
theorem dksX6_init_3 : cX6_init.data.toList.drop 68 = dktX6_init_3 := dk_seg dksX6_init_2 22 rfl rfl
theorem dX6_init_0 : decode cX6_init 0 = .ok (.aload_n 0, 1) := dk_42 (dk_at dksX6_init_0 0 rfl rfl)
theorem dX6_init_1 : decode cX6_init 1 = .ok (.invokespecial 3, 3) := dk_183 0 3 (dk_at dksX6_init_0 1 rfl rfl)
theorem dX6_init_4 : decode cX6_init 4 = .ok (.aload_n 0, 1) := dk_42 (dk_at dksX6_init_0 4 rfl rfl)
theorem dX6_init_5 : decode cX6_init 5 = .ok (.iconst 1, 1) := dk_4 (dk_at dksX6_init_0 5 rfl rfl)
theorem dX6_init_6 : decode cX6_init 6 = .ok (.putfield 9, 3) := dk_181 0 9 (dk_at dksX6_init_0 6 rfl rfl)
theorem dX6_init_9 : decode cX6_init 9 = .ok (.aload_n 0, 1) := dk_42 (dk_at dksX6_init_0 9 rfl rfl)
theorem dX6_init_10 : decode cX6_init 10 = .ok (.iconst (-1), 1) := dk_2 (dk_at dksX6_init_0 10 rfl rfl)
theorem dX6_init_11 : decode cX6_init 11 = .ok (.putfield 15, 3) := dk_181 0 15 (dk_at dksX6_init_0 11 rfl rfl)
theorem dX6_init_14 : decode cX6_init 14 = .ok (.aload_n 0, 1) := dk_42 (dk_at dksX6_init_0 14 rfl rfl)
theorem dX6_init_15 : decode cX6_init 15 = .ok (.iconst 4, 1) := dk_7 (dk_at dksX6_init_0 15 rfl rfl)
theorem dX6_init_16 : decode cX6_init 16 = .ok (.newarray .int, 2) := dk_188_10 (dk_at dksX6_init_0 16 rfl rfl)
theorem dX6_init_18 : decode cX6_init 18 = .ok (.putfield 19, 3) := dk_181 0 19 (dk_at dksX6_init_0 18 rfl rfl)
theorem dX6_init_21 : decode cX6_init 21 = .ok (.aload_n 0, 1) := dk_42 (dk_at dksX6_init_0 21 rfl rfl)
theorem dX6_init_22 : decode cX6_init 22 = .ok (.new 23, 3) := dk_187 0 23 (dk_at dksX6_init_1 0 rfl rfl)
theorem dX6_init_25 : decode cX6_init 25 = .ok (.dup, 1) := dk_89 (dk_at dksX6_init_1 3 rfl rfl)
theorem dX6_init_26 : decode cX6_init 26 = .ok (.invokespecial 25, 3) := dk_183 0 25 (dk_at dksX6_init_1 4 rfl rfl)
theorem dX6_init_29 : decode cX6_init 29 = .ok (.putfield 26, 3) := dk_181 0 26 (dk_at dksX6_init_1 7 rfl rfl)
theorem dX6_init_32 : decode cX6_init 32 = .ok (.aload_n 0, 1) := dk_42 (dk_at dksX6_init_1 10 rfl rfl)
theorem dX6_init_33 : decode cX6_init 33 = .ok (.new 23, 3) := dk_187 0 23 (dk_at dksX6_init_1 11 rfl rfl)
theorem dX6_init_36 : decode cX6_init 36 = .ok (.dup, 1) := dk_89 (dk_at dksX6_init_1 14 rfl rfl)
theorem dX6_init_37 : decode cX6_init 37 = .ok (.invokespecial 25, 3) := dk_183 0 25 (dk_at dksX6_init_1 15 rfl rfl)
theorem dX6_init_40 : decode cX6_init 40 = .ok (.putfield 30, 3) := dk_181 0 30 (dk_at dksX6_init_1 18 rfl rfl)
theorem dX6_init_43 : decode cX6_init 43 = .ok (.aload_n 0, 1) := dk_42 (dk_at dksX6_init_1 21 rfl rfl)
theorem dX6_init_44 : decode cX6_init 44 = .ok (.iload_n 1, 1) := dk_27 (dk_at dksX6_init_1 22 rfl rfl)
theorem dX6_init_45 : decode cX6_init 45 = .ok (.iload_n 2, 1) := dk_28 (dk_at dksX6_init_1 23 rfl rfl)
theorem dX6_init_46 : decode cX6_init 46 = .ok (.invokestatic 33, 3) := dk_184 0 33 (dk_at dksX6_init_2 0 rfl rfl)
theorem dX6_init_49 : decode cX6_init 49 = .ok (.putfield 39, 3) := dk_181 0 39 (dk_at dksX6_init_2 3 rfl rfl)
theorem dX6_init_52 : decode cX6_init 52 = .ok (.aload_n 0, 1) := dk_42 (dk_at dksX6_init_2 6 rfl rfl)
theorem dX6_init_53 : decode cX6_init 53 = .ok (.iload_n 1, 1) := dk_27 (dk_at dksX6_init_2 7 rfl rfl)
theorem dX6_init_54 : decode cX6_init 54 = .ok (.iload_n 2, 1) := dk_28 (dk_at dksX6_init_2 8 rfl rfl)
theorem dX6_init_55 : decode cX6_init 55 = .ok (.invokestatic 42, 3) := dk_184 0 42 (dk_at dksX6_init_2 9 rfl rfl)
theorem dX6_init_58 : decode cX6_init 58 = .ok (.putfield 45, 3) := dk_181 0 45 (dk_at dksX6_init_2 12 rfl rfl)
theorem dX6_init_61 : decode cX6_init 61 = .ok (.aload_n 0, 1) := dk_42 (dk_at dksX6_init_2 15 rfl rfl)
theorem dX6_init_62 : decode cX6_init 62 = .ok (.iload_n 3, 1) := dk_29 (dk_at dksX6_init_2 16 rfl rfl)
theorem dX6_init_63 : decode cX6_init 63 = .ok (.putfield 48, 3) := dk_181 0 48 (dk_at dksX6_init_2 17 rfl rfl)
theorem dX6_init_66 : decode cX6_init 66 = .ok (.aload_n 0, 1) := dk_42 (dk_at dksX6_init_2 20 rfl rfl)
theorem dX6_init_67 : decode cX6_init 67 = .ok (.iload_n 3, 1) := dk_29 (dk_at dksX6_init_2 21 rfl rfl)
theorem dX6_init_68 : decode cX6_init 68 = .ok (.putfield 51, 3) := dk_181 0 51 (dk_at dksX6_init_3 0 rfl rfl)
theorem dX6_init_71 : decode cX6_init 71 = .ok (.return_, 1) := dk_177 (dk_at dksX6_init_3 3 rfl rfl)
abbrev cX6_follow : ByteArray := prog_4_method_6_code
def yX6_follow : MethodName := ⟨RX6, "follow", "(I)V"⟩
def dkwX6_follow_2 : List UInt8 := [180, 0, 60, 6, 160, 0, 13, 42, 28, 181, 0, 51, 42, 3, 181, 0, 60, 177]
abbrev dktX6_follow_2 : List UInt8 := dkwX6_follow_2 ++ []
def dkwX6_follow_1 : List UInt8 := [180, 0, 60, 4, 96, 181, 0, 60, 28, 42, 180, 0, 51, 100, 184, 0, 76, 27, 163, 0, 11, 42]
abbrev dktX6_follow_1 : List UInt8 := dkwX6_follow_1 ++ dktX6_follow_2
def dkwX6_follow_0 : List UInt8 := [42, 180, 0, 48, 42, 180, 0, 57, 96, 61, 42, 28, 42, 180, 0, 51, 160, 0, 7, 3, 167, 0, 9, 42]
abbrev dktX6_follow_0 : List UInt8 := dkwX6_follow_0 ++ dktX6_follow_1
theorem dksX6_follow_0 : cX6_follow.data.toList.drop 0 = dktX6_follow_0 := by decide +kernel
theorem dksX6_follow_1 : cX6_follow.data.toList.drop 24 = dktX6_follow_1 := dk_seg dksX6_follow_0 24 rfl rfl
theorem dksX6_follow_2 : cX6_follow.data.toList.drop 46 = dktX6_follow_2 := dk_seg dksX6_follow_1 22 rfl rfl
theorem dX6_follow_0 : decode cX6_follow 0 = .ok (.aload_n 0, 1) := dk_42 (dk_at dksX6_follow_0 0 rfl rfl)
theorem dX6_follow_1 : decode cX6_follow 1 = .ok (.getfield 48, 3) := dk_180 0 48 (dk_at dksX6_follow_0 1 rfl rfl)
theorem dX6_follow_4 : decode cX6_follow 4 = .ok (.aload_n 0, 1) := dk_42 (dk_at dksX6_follow_0 4 rfl rfl)
theorem dX6_follow_5 : decode cX6_follow 5 = .ok (.getfield 57, 3) := dk_180 0 57 (dk_at dksX6_follow_0 5 rfl rfl)
theorem dX6_follow_8 : decode cX6_follow 8 = .ok (.iadd, 1) := dk_96 (dk_at dksX6_follow_0 8 rfl rfl)
theorem dX6_follow_9 : decode cX6_follow 9 = .ok (.istore_n 2, 1) := dk_61 (dk_at dksX6_follow_0 9 rfl rfl)
theorem dX6_follow_10 : decode cX6_follow 10 = .ok (.aload_n 0, 1) := dk_42 (dk_at dksX6_follow_0 10 rfl rfl)
theorem dX6_follow_11 : decode cX6_follow 11 = .ok (.iload_n 2, 1) := dk_28 (dk_at dksX6_follow_0 11 rfl rfl)
theorem dX6_follow_12 : decode cX6_follow 12 = .ok (.aload_n 0, 1) := dk_42 (dk_at dksX6_follow_0 12 rfl rfl)
theorem dX6_follow_13 : decode cX6_follow 13 = .ok (.getfield 51, 3) := dk_180 0 51 (dk_at dksX6_follow_0 13 rfl rfl)
theorem dX6_follow_16 : decode cX6_follow 16 = .ok (.if_icmp .ne 7, 3) := dk_160 0 7 (dk_at dksX6_follow_0 16 rfl rfl)
theorem dX6_follow_19 : decode cX6_follow 19 = .ok (.iconst 0, 1) := dk_3 (dk_at dksX6_follow_0 19 rfl rfl)
theorem dX6_follow_20 : decode cX6_follow 20 = .ok (.goto 9, 3) := dk_167 0 9 (dk_at dksX6_follow_0 20 rfl rfl)
theorem dX6_follow_23 : decode cX6_follow 23 = .ok (.aload_n 0, 1) := dk_42 (dk_at dksX6_follow_0 23 rfl rfl)
theorem dX6_follow_24 : decode cX6_follow 24 = .ok (.getfield 60, 3) := dk_180 0 60 (dk_at dksX6_follow_1 0 rfl rfl)
theorem dX6_follow_27 : decode cX6_follow 27 = .ok (.iconst 1, 1) := dk_4 (dk_at dksX6_follow_1 3 rfl rfl)
theorem dX6_follow_28 : decode cX6_follow 28 = .ok (.iadd, 1) := dk_96 (dk_at dksX6_follow_1 4 rfl rfl)
theorem dX6_follow_29 : decode cX6_follow 29 = .ok (.putfield 60, 3) := dk_181 0 60 (dk_at dksX6_follow_1 5 rfl rfl)
theorem dX6_follow_32 : decode cX6_follow 32 = .ok (.iload_n 2, 1) := dk_28 (dk_at dksX6_follow_1 8 rfl rfl)
theorem dX6_follow_33 : decode cX6_follow 33 = .ok (.aload_n 0, 1) := dk_42 (dk_at dksX6_follow_1 9 rfl rfl)
theorem dX6_follow_34 : decode cX6_follow 34 = .ok (.getfield 51, 3) := dk_180 0 51 (dk_at dksX6_follow_1 10 rfl rfl)
theorem dX6_follow_37 : decode cX6_follow 37 = .ok (.isub, 1) := dk_100 (dk_at dksX6_follow_1 13 rfl rfl)
theorem dX6_follow_38 : decode cX6_follow 38 = .ok (.invokestatic 76, 3) := dk_184 0 76 (dk_at dksX6_follow_1 14 rfl rfl)
theorem dX6_follow_41 : decode cX6_follow 41 = .ok (.iload_n 1, 1) := dk_27 (dk_at dksX6_follow_1 17 rfl rfl)
theorem dX6_follow_42 : decode cX6_follow 42 = .ok (.if_icmp .gt 11, 3) := dk_163 0 11 (dk_at dksX6_follow_1 18 rfl rfl)
theorem dX6_follow_45 : decode cX6_follow 45 = .ok (.aload_n 0, 1) := dk_42 (dk_at dksX6_follow_1 21 rfl rfl)
theorem dX6_follow_46 : decode cX6_follow 46 = .ok (.getfield 60, 3) := dk_180 0 60 (dk_at dksX6_follow_2 0 rfl rfl)
theorem dX6_follow_49 : decode cX6_follow 49 = .ok (.iconst 3, 1) := dk_6 (dk_at dksX6_follow_2 3 rfl rfl)
theorem dX6_follow_50 : decode cX6_follow 50 = .ok (.if_icmp .ne 13, 3) := dk_160 0 13 (dk_at dksX6_follow_2 4 rfl rfl)
theorem dX6_follow_53 : decode cX6_follow 53 = .ok (.aload_n 0, 1) := dk_42 (dk_at dksX6_follow_2 7 rfl rfl)
theorem dX6_follow_54 : decode cX6_follow 54 = .ok (.iload_n 2, 1) := dk_28 (dk_at dksX6_follow_2 8 rfl rfl)
theorem dX6_follow_55 : decode cX6_follow 55 = .ok (.putfield 51, 3) := dk_181 0 51 (dk_at dksX6_follow_2 9 rfl rfl)
theorem dX6_follow_58 : decode cX6_follow 58 = .ok (.aload_n 0, 1) := dk_42 (dk_at dksX6_follow_2 12 rfl rfl)
theorem dX6_follow_59 : decode cX6_follow 59 = .ok (.iconst 0, 1) := dk_3 (dk_at dksX6_follow_2 13 rfl rfl)
theorem dX6_follow_60 : decode cX6_follow 60 = .ok (.putfield 60, 3) := dk_181 0 60 (dk_at dksX6_follow_2 14 rfl rfl)
theorem dX6_follow_63 : decode cX6_follow 63 = .ok (.return_, 1) := dk_177 (dk_at dksX6_follow_2 17 rfl rfl)
abbrev cX6_isAt : ByteArray := prog_4_method_3_code
def yX6_isAt : MethodName := ⟨RX6, "isAt", "(I)Z"⟩
def dkwX6_isAt_0 : List UInt8 := [42, 180, 0, 39, 27, 159, 0, 11, 42, 180, 0, 45, 27, 160, 0, 7, 4, 167, 0, 4, 3, 172]
abbrev dktX6_isAt_0 : List UInt8 := dkwX6_isAt_0 ++ []
theorem dksX6_isAt_0 : cX6_isAt.data.toList.drop 0 = dktX6_isAt_0 := by decide +kernel
theorem dX6_isAt_0 : decode cX6_isAt 0 = .ok (.aload_n 0, 1) := dk_42 (dk_at dksX6_isAt_0 0 rfl rfl)
theorem dX6_isAt_1 : decode cX6_isAt 1 = .ok (.getfield 39, 3) := dk_180 0 39 (dk_at dksX6_isAt_0 1 rfl rfl)
theorem dX6_isAt_4 : decode cX6_isAt 4 = .ok (.iload_n 1, 1) := dk_27 (dk_at dksX6_isAt_0 4 rfl rfl)
theorem dX6_isAt_5 : decode cX6_isAt 5 = .ok (.if_icmp .eq 11, 3) := dk_159 0 11 (dk_at dksX6_isAt_0 5 rfl rfl)
theorem dX6_isAt_8 : decode cX6_isAt 8 = .ok (.aload_n 0, 1) := dk_42 (dk_at dksX6_isAt_0 8 rfl rfl)
theorem dX6_isAt_9 : decode cX6_isAt 9 = .ok (.getfield 45, 3) := dk_180 0 45 (dk_at dksX6_isAt_0 9 rfl rfl)
theorem dX6_isAt_12 : decode cX6_isAt 12 = .ok (.iload_n 1, 1) := dk_27 (dk_at dksX6_isAt_0 12 rfl rfl)
theorem dX6_isAt_13 : decode cX6_isAt 13 = .ok (.if_icmp .ne 7, 3) := dk_160 0 7 (dk_at dksX6_isAt_0 13 rfl rfl)
theorem dX6_isAt_16 : decode cX6_isAt 16 = .ok (.iconst 1, 1) := dk_4 (dk_at dksX6_isAt_0 16 rfl rfl)
theorem dX6_isAt_17 : decode cX6_isAt 17 = .ok (.goto 4, 3) := dk_167 0 4 (dk_at dksX6_isAt_0 17 rfl rfl)
theorem dX6_isAt_20 : decode cX6_isAt 20 = .ok (.iconst 0, 1) := dk_3 (dk_at dksX6_isAt_0 20 rfl rfl)
theorem dX6_isAt_21 : decode cX6_isAt 21 = .ok (.ireturn, 1) := dk_172 (dk_at dksX6_isAt_0 21 rfl rfl)
abbrev cX6_otherEnd : ByteArray := prog_4_method_4_code
def yX6_otherEnd : MethodName := ⟨RX6, "otherEnd", "(I)I"⟩
def dkwX6_otherEnd_0 : List UInt8 := [42, 180, 0, 39, 42, 180, 0, 45, 96, 27, 100, 172]
abbrev dktX6_otherEnd_0 : List UInt8 := dkwX6_otherEnd_0 ++ []
theorem dksX6_otherEnd_0 : cX6_otherEnd.data.toList.drop 0 = dktX6_otherEnd_0 := by decide +kernel
theorem dX6_otherEnd_0 : decode cX6_otherEnd 0 = .ok (.aload_n 0, 1) := dk_42 (dk_at dksX6_otherEnd_0 0 rfl rfl)
theorem dX6_otherEnd_1 : decode cX6_otherEnd 1 = .ok (.getfield 39, 3) := dk_180 0 39 (dk_at dksX6_otherEnd_0 1 rfl rfl)
theorem dX6_otherEnd_4 : decode cX6_otherEnd 4 = .ok (.aload_n 0, 1) := dk_42 (dk_at dksX6_otherEnd_0 4 rfl rfl)
theorem dX6_otherEnd_5 : decode cX6_otherEnd 5 = .ok (.getfield 45, 3) := dk_180 0 45 (dk_at dksX6_otherEnd_0 5 rfl rfl)
theorem dX6_otherEnd_8 : decode cX6_otherEnd 8 = .ok (.iadd, 1) := dk_96 (dk_at dksX6_otherEnd_0 8 rfl rfl)
theorem dX6_otherEnd_9 : decode cX6_otherEnd 9 = .ok (.iload_n 1, 1) := dk_27 (dk_at dksX6_otherEnd_0 9 rfl rfl)
theorem dX6_otherEnd_10 : decode cX6_otherEnd 10 = .ok (.isub, 1) := dk_100 (dk_at dksX6_otherEnd_0 10 rfl rfl)
theorem dX6_otherEnd_11 : decode cX6_otherEnd 11 = .ok (.ireturn, 1) := dk_172 (dk_at dksX6_otherEnd_0 11 rfl rfl)
abbrev cX6_copy : ByteArray := prog_4_method_2_code
def yX6_copy : MethodName := ⟨RX6, "copy", "()LBridgeAuction$Link;"⟩
def dkwX6_copy_4 : List UInt8 := [182, 0, 69, 43, 176]
abbrev dktX6_copy_4 : List UInt8 := dkwX6_copy_4 ++ []
def dkwX6_copy_3 : List UInt8 := [7, 184, 0, 63, 43, 180, 0, 26, 42, 180, 0, 26, 182, 0, 69, 43, 180, 0, 30, 42, 180, 0, 30]
abbrev dktX6_copy_3 : List UInt8 := dkwX6_copy_3 ++ dktX6_copy_4
def dkwX6_copy_2 : List UInt8 := [180, 0, 57, 181, 0, 57, 43, 42, 180, 0, 60, 181, 0, 60, 42, 180, 0, 19, 3, 43, 180, 0, 19, 3]
abbrev dktX6_copy_2 : List UInt8 := dkwX6_copy_2 ++ dktX6_copy_3
def dkwX6_copy_1 : List UInt8 := [180, 0, 51, 181, 0, 51, 43, 42, 180, 0, 9, 181, 0, 9, 43, 42, 180, 0, 15, 181, 0, 15, 43, 42]
abbrev dktX6_copy_1 : List UInt8 := dkwX6_copy_1 ++ dktX6_copy_2
def dkwX6_copy_0 : List UInt8 := [187, 0, 10, 89, 42, 180, 0, 39, 42, 180, 0, 45, 42, 180, 0, 48, 183, 0, 54, 76, 43, 42]
abbrev dktX6_copy_0 : List UInt8 := dkwX6_copy_0 ++ dktX6_copy_1
theorem dksX6_copy_0 : cX6_copy.data.toList.drop 0 = dktX6_copy_0 := by decide +kernel
theorem dksX6_copy_1 : cX6_copy.data.toList.drop 22 = dktX6_copy_1 := dk_seg dksX6_copy_0 22 rfl rfl
theorem dksX6_copy_2 : cX6_copy.data.toList.drop 46 = dktX6_copy_2 := dk_seg dksX6_copy_1 24 rfl rfl
theorem dksX6_copy_3 : cX6_copy.data.toList.drop 70 = dktX6_copy_3 := dk_seg dksX6_copy_2 24 rfl rfl
theorem dksX6_copy_4 : cX6_copy.data.toList.drop 93 = dktX6_copy_4 := dk_seg dksX6_copy_3 23 rfl rfl
theorem dX6_copy_0 : decode cX6_copy 0 = .ok (.new 10, 3) := dk_187 0 10 (dk_at dksX6_copy_0 0 rfl rfl)
theorem dX6_copy_3 : decode cX6_copy 3 = .ok (.dup, 1) := dk_89 (dk_at dksX6_copy_0 3 rfl rfl)
theorem dX6_copy_4 : decode cX6_copy 4 = .ok (.aload_n 0, 1) := dk_42 (dk_at dksX6_copy_0 4 rfl rfl)
theorem dX6_copy_5 : decode cX6_copy 5 = .ok (.getfield 39, 3) := dk_180 0 39 (dk_at dksX6_copy_0 5 rfl rfl)
theorem dX6_copy_8 : decode cX6_copy 8 = .ok (.aload_n 0, 1) := dk_42 (dk_at dksX6_copy_0 8 rfl rfl)
theorem dX6_copy_9 : decode cX6_copy 9 = .ok (.getfield 45, 3) := dk_180 0 45 (dk_at dksX6_copy_0 9 rfl rfl)
theorem dX6_copy_12 : decode cX6_copy 12 = .ok (.aload_n 0, 1) := dk_42 (dk_at dksX6_copy_0 12 rfl rfl)
theorem dX6_copy_13 : decode cX6_copy 13 = .ok (.getfield 48, 3) := dk_180 0 48 (dk_at dksX6_copy_0 13 rfl rfl)
theorem dX6_copy_16 : decode cX6_copy 16 = .ok (.invokespecial 54, 3) := dk_183 0 54 (dk_at dksX6_copy_0 16 rfl rfl)
theorem dX6_copy_19 : decode cX6_copy 19 = .ok (.astore_n 1, 1) := dk_76 (dk_at dksX6_copy_0 19 rfl rfl)
theorem dX6_copy_20 : decode cX6_copy 20 = .ok (.aload_n 1, 1) := dk_43 (dk_at dksX6_copy_0 20 rfl rfl)
theorem dX6_copy_21 : decode cX6_copy 21 = .ok (.aload_n 0, 1) := dk_42 (dk_at dksX6_copy_0 21 rfl rfl)
theorem dX6_copy_22 : decode cX6_copy 22 = .ok (.getfield 51, 3) := dk_180 0 51 (dk_at dksX6_copy_1 0 rfl rfl)
theorem dX6_copy_25 : decode cX6_copy 25 = .ok (.putfield 51, 3) := dk_181 0 51 (dk_at dksX6_copy_1 3 rfl rfl)
theorem dX6_copy_28 : decode cX6_copy 28 = .ok (.aload_n 1, 1) := dk_43 (dk_at dksX6_copy_1 6 rfl rfl)
theorem dX6_copy_29 : decode cX6_copy 29 = .ok (.aload_n 0, 1) := dk_42 (dk_at dksX6_copy_1 7 rfl rfl)
theorem dX6_copy_30 : decode cX6_copy 30 = .ok (.getfield 9, 3) := dk_180 0 9 (dk_at dksX6_copy_1 8 rfl rfl)
theorem dX6_copy_33 : decode cX6_copy 33 = .ok (.putfield 9, 3) := dk_181 0 9 (dk_at dksX6_copy_1 11 rfl rfl)
theorem dX6_copy_36 : decode cX6_copy 36 = .ok (.aload_n 1, 1) := dk_43 (dk_at dksX6_copy_1 14 rfl rfl)
theorem dX6_copy_37 : decode cX6_copy 37 = .ok (.aload_n 0, 1) := dk_42 (dk_at dksX6_copy_1 15 rfl rfl)
theorem dX6_copy_38 : decode cX6_copy 38 = .ok (.getfield 15, 3) := dk_180 0 15 (dk_at dksX6_copy_1 16 rfl rfl)
theorem dX6_copy_41 : decode cX6_copy 41 = .ok (.putfield 15, 3) := dk_181 0 15 (dk_at dksX6_copy_1 19 rfl rfl)
theorem dX6_copy_44 : decode cX6_copy 44 = .ok (.aload_n 1, 1) := dk_43 (dk_at dksX6_copy_1 22 rfl rfl)
theorem dX6_copy_45 : decode cX6_copy 45 = .ok (.aload_n 0, 1) := dk_42 (dk_at dksX6_copy_1 23 rfl rfl)
theorem dX6_copy_46 : decode cX6_copy 46 = .ok (.getfield 57, 3) := dk_180 0 57 (dk_at dksX6_copy_2 0 rfl rfl)
theorem dX6_copy_49 : decode cX6_copy 49 = .ok (.putfield 57, 3) := dk_181 0 57 (dk_at dksX6_copy_2 3 rfl rfl)
theorem dX6_copy_52 : decode cX6_copy 52 = .ok (.aload_n 1, 1) := dk_43 (dk_at dksX6_copy_2 6 rfl rfl)
theorem dX6_copy_53 : decode cX6_copy 53 = .ok (.aload_n 0, 1) := dk_42 (dk_at dksX6_copy_2 7 rfl rfl)
theorem dX6_copy_54 : decode cX6_copy 54 = .ok (.getfield 60, 3) := dk_180 0 60 (dk_at dksX6_copy_2 8 rfl rfl)
theorem dX6_copy_57 : decode cX6_copy 57 = .ok (.putfield 60, 3) := dk_181 0 60 (dk_at dksX6_copy_2 11 rfl rfl)
theorem dX6_copy_60 : decode cX6_copy 60 = .ok (.aload_n 0, 1) := dk_42 (dk_at dksX6_copy_2 14 rfl rfl)
theorem dX6_copy_61 : decode cX6_copy 61 = .ok (.getfield 19, 3) := dk_180 0 19 (dk_at dksX6_copy_2 15 rfl rfl)
theorem dX6_copy_64 : decode cX6_copy 64 = .ok (.iconst 0, 1) := dk_3 (dk_at dksX6_copy_2 18 rfl rfl)
theorem dX6_copy_65 : decode cX6_copy 65 = .ok (.aload_n 1, 1) := dk_43 (dk_at dksX6_copy_2 19 rfl rfl)
theorem dX6_copy_66 : decode cX6_copy 66 = .ok (.getfield 19, 3) := dk_180 0 19 (dk_at dksX6_copy_2 20 rfl rfl)
theorem dX6_copy_69 : decode cX6_copy 69 = .ok (.iconst 0, 1) := dk_3 (dk_at dksX6_copy_2 23 rfl rfl)
theorem dX6_copy_70 : decode cX6_copy 70 = .ok (.iconst 4, 1) := dk_7 (dk_at dksX6_copy_3 0 rfl rfl)
theorem dX6_copy_71 : decode cX6_copy 71 = .ok (.invokestatic 63, 3) := dk_184 0 63 (dk_at dksX6_copy_3 1 rfl rfl)
theorem dX6_copy_74 : decode cX6_copy 74 = .ok (.aload_n 1, 1) := dk_43 (dk_at dksX6_copy_3 4 rfl rfl)
theorem dX6_copy_75 : decode cX6_copy 75 = .ok (.getfield 26, 3) := dk_180 0 26 (dk_at dksX6_copy_3 5 rfl rfl)
theorem dX6_copy_78 : decode cX6_copy 78 = .ok (.aload_n 0, 1) := dk_42 (dk_at dksX6_copy_3 8 rfl rfl)
theorem dX6_copy_79 : decode cX6_copy 79 = .ok (.getfield 26, 3) := dk_180 0 26 (dk_at dksX6_copy_3 9 rfl rfl)
theorem dX6_copy_82 : decode cX6_copy 82 = .ok (.invokevirtual 69, 3) := dk_182 0 69 (dk_at dksX6_copy_3 12 rfl rfl)
theorem dX6_copy_85 : decode cX6_copy 85 = .ok (.aload_n 1, 1) := dk_43 (dk_at dksX6_copy_3 15 rfl rfl)
theorem dX6_copy_86 : decode cX6_copy 86 = .ok (.getfield 30, 3) := dk_180 0 30 (dk_at dksX6_copy_3 16 rfl rfl)
theorem dX6_copy_89 : decode cX6_copy 89 = .ok (.aload_n 0, 1) := dk_42 (dk_at dksX6_copy_3 19 rfl rfl)
theorem dX6_copy_90 : decode cX6_copy 90 = .ok (.getfield 30, 3) := dk_180 0 30 (dk_at dksX6_copy_3 20 rfl rfl)
theorem dX6_copy_93 : decode cX6_copy 93 = .ok (.invokevirtual 69, 3) := dk_182 0 69 (dk_at dksX6_copy_4 0 rfl rfl)
theorem dX6_copy_96 : decode cX6_copy 96 = .ok (.aload_n 1, 1) := dk_43 (dk_at dksX6_copy_4 3 rfl rfl)
theorem dX6_copy_97 : decode cX6_copy 97 = .ok (.areturn, 1) := dk_176 (dk_at dksX6_copy_4 4 rfl rfl)
abbrev cX6_value : ByteArray := prog_4_method_7_code
def yX6_value : MethodName := ⟨RX6, "value", "(I)I"⟩
def dkwX6_value_4 : List UInt8 := [153, 0, 7, 4, 167, 0, 4, 3, 172, 42, 180, 0, 60, 172]
abbrev dktX6_value_4 : List UInt8 := dkwX6_value_4 ++ []
def dkwX6_value_3 : List UInt8 := [153, 0, 7, 4, 167, 0, 4, 3, 172, 42, 180, 0, 15, 172, 42, 180, 0, 57, 172, 42, 182, 0, 80]
abbrev dktX6_value_3 : List UInt8 := dkwX6_value_3 ++ dktX6_value_4
def dkwX6_value_2 : List UInt8 := [42, 180, 0, 39, 172, 42, 180, 0, 45, 172, 42, 180, 0, 48, 172, 42, 180, 0, 51, 172, 42, 180, 0, 9]
abbrev dktX6_value_2 : List UInt8 := dkwX6_value_2 ++ dktX6_value_3
def dkwX6_value_1 : List UInt8 := [170, 0, 0, 0, 0, 0, 103, 0, 0, 0, 0, 0, 0, 0, 7, 0, 0, 0, 47, 0, 0, 0, 52, 0, 0, 0, 57, 0, 0, 0, 62, 0, 0, 0, 67, 0, 0, 0, 80, 0, 0, 0, 85, 0, 0, 0, 90]
abbrev dktX6_value_1 : List UInt8 := dkwX6_value_1 ++ dktX6_value_2
def dkwX6_value_0 : List UInt8 := [27]
abbrev dktX6_value_0 : List UInt8 := dkwX6_value_0 ++ dktX6_value_1
theorem dksX6_value_0 : cX6_value.data.toList.drop 0 = dktX6_value_0 := by decide +kernel
theorem dksX6_value_1 : cX6_value.data.toList.drop 1 = dktX6_value_1 := dk_seg dksX6_value_0 1 rfl rfl
theorem dksX6_value_2 : cX6_value.data.toList.drop 48 = dktX6_value_2 := dk_seg dksX6_value_1 47 rfl rfl
theorem dksX6_value_3 : cX6_value.data.toList.drop 72 = dktX6_value_3 := dk_seg dksX6_value_2 24 rfl rfl
theorem dksX6_value_4 : cX6_value.data.toList.drop 95 = dktX6_value_4 := dk_seg dksX6_value_3 23 rfl rfl
theorem dX6_value_0 : decode cX6_value 0 = .ok (.iload_n 1, 1) := dk_27 (dk_at dksX6_value_0 0 rfl rfl)
theorem dX6_value_1 : decode cX6_value 1 = .ok (.tableswitch 103 0 7 #[47, 52, 57, 62, 67, 80, 85, 90], 47) := by decide +kernel
theorem dX6_value_48 : decode cX6_value 48 = .ok (.aload_n 0, 1) := dk_42 (dk_at dksX6_value_2 0 rfl rfl)
theorem dX6_value_49 : decode cX6_value 49 = .ok (.getfield 39, 3) := dk_180 0 39 (dk_at dksX6_value_2 1 rfl rfl)
theorem dX6_value_52 : decode cX6_value 52 = .ok (.ireturn, 1) := dk_172 (dk_at dksX6_value_2 4 rfl rfl)
theorem dX6_value_53 : decode cX6_value 53 = .ok (.aload_n 0, 1) := dk_42 (dk_at dksX6_value_2 5 rfl rfl)
theorem dX6_value_54 : decode cX6_value 54 = .ok (.getfield 45, 3) := dk_180 0 45 (dk_at dksX6_value_2 6 rfl rfl)
theorem dX6_value_57 : decode cX6_value 57 = .ok (.ireturn, 1) := dk_172 (dk_at dksX6_value_2 9 rfl rfl)
theorem dX6_value_58 : decode cX6_value 58 = .ok (.aload_n 0, 1) := dk_42 (dk_at dksX6_value_2 10 rfl rfl)
theorem dX6_value_59 : decode cX6_value 59 = .ok (.getfield 48, 3) := dk_180 0 48 (dk_at dksX6_value_2 11 rfl rfl)
theorem dX6_value_62 : decode cX6_value 62 = .ok (.ireturn, 1) := dk_172 (dk_at dksX6_value_2 14 rfl rfl)
theorem dX6_value_63 : decode cX6_value 63 = .ok (.aload_n 0, 1) := dk_42 (dk_at dksX6_value_2 15 rfl rfl)
theorem dX6_value_64 : decode cX6_value 64 = .ok (.getfield 51, 3) := dk_180 0 51 (dk_at dksX6_value_2 16 rfl rfl)
theorem dX6_value_67 : decode cX6_value 67 = .ok (.ireturn, 1) := dk_172 (dk_at dksX6_value_2 19 rfl rfl)
theorem dX6_value_68 : decode cX6_value 68 = .ok (.aload_n 0, 1) := dk_42 (dk_at dksX6_value_2 20 rfl rfl)
theorem dX6_value_69 : decode cX6_value 69 = .ok (.getfield 9, 3) := dk_180 0 9 (dk_at dksX6_value_2 21 rfl rfl)
theorem dX6_value_72 : decode cX6_value 72 = .ok (.ifCond .eq 7, 3) := dk_153 0 7 (dk_at dksX6_value_3 0 rfl rfl)
theorem dX6_value_75 : decode cX6_value 75 = .ok (.iconst 1, 1) := dk_4 (dk_at dksX6_value_3 3 rfl rfl)
theorem dX6_value_76 : decode cX6_value 76 = .ok (.goto 4, 3) := dk_167 0 4 (dk_at dksX6_value_3 4 rfl rfl)
theorem dX6_value_79 : decode cX6_value 79 = .ok (.iconst 0, 1) := dk_3 (dk_at dksX6_value_3 7 rfl rfl)
theorem dX6_value_80 : decode cX6_value 80 = .ok (.ireturn, 1) := dk_172 (dk_at dksX6_value_3 8 rfl rfl)
theorem dX6_value_81 : decode cX6_value 81 = .ok (.aload_n 0, 1) := dk_42 (dk_at dksX6_value_3 9 rfl rfl)
theorem dX6_value_82 : decode cX6_value 82 = .ok (.getfield 15, 3) := dk_180 0 15 (dk_at dksX6_value_3 10 rfl rfl)
theorem dX6_value_85 : decode cX6_value 85 = .ok (.ireturn, 1) := dk_172 (dk_at dksX6_value_3 13 rfl rfl)
theorem dX6_value_86 : decode cX6_value 86 = .ok (.aload_n 0, 1) := dk_42 (dk_at dksX6_value_3 14 rfl rfl)
theorem dX6_value_87 : decode cX6_value 87 = .ok (.getfield 57, 3) := dk_180 0 57 (dk_at dksX6_value_3 15 rfl rfl)
theorem dX6_value_90 : decode cX6_value 90 = .ok (.ireturn, 1) := dk_172 (dk_at dksX6_value_3 18 rfl rfl)
theorem dX6_value_91 : decode cX6_value 91 = .ok (.aload_n 0, 1) := dk_42 (dk_at dksX6_value_3 19 rfl rfl)
theorem dX6_value_92 : decode cX6_value 92 = .ok (.invokevirtual 80, 3) := dk_182 0 80 (dk_at dksX6_value_3 20 rfl rfl)
theorem dX6_value_95 : decode cX6_value 95 = .ok (.ifCond .eq 7, 3) := dk_153 0 7 (dk_at dksX6_value_4 0 rfl rfl)
theorem dX6_value_98 : decode cX6_value 98 = .ok (.iconst 1, 1) := dk_4 (dk_at dksX6_value_4 3 rfl rfl)
theorem dX6_value_99 : decode cX6_value 99 = .ok (.goto 4, 3) := dk_167 0 4 (dk_at dksX6_value_4 4 rfl rfl)
theorem dX6_value_102 : decode cX6_value 102 = .ok (.iconst 0, 1) := dk_3 (dk_at dksX6_value_4 7 rfl rfl)
theorem dX6_value_103 : decode cX6_value 103 = .ok (.ireturn, 1) := dk_172 (dk_at dksX6_value_4 8 rfl rfl)
theorem dX6_value_104 : decode cX6_value 104 = .ok (.aload_n 0, 1) := dk_42 (dk_at dksX6_value_4 9 rfl rfl)
theorem dX6_value_105 : decode cX6_value 105 = .ok (.getfield 60, 3) := dk_180 0 60 (dk_at dksX6_value_4 10 rfl rfl)
theorem dX6_value_108 : decode cX6_value 108 = .ok (.ireturn, 1) := dk_172 (dk_at dksX6_value_4 13 rfl rfl)
