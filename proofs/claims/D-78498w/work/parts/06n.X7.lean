set_option maxRecDepth 100000
abbrev cX7_init : ByteArray := prog_6_method_1_code
def yX7_init : MethodName := ⟨RX7, "<init>", "()V"⟩
def dkwX7_init_0 : List UInt8 := [42, 183, 0, 3, 42, 5, 181, 0, 9, 42, 3, 181, 0, 15, 177]
abbrev dktX7_init_0 : List UInt8 := dkwX7_init_0 ++ []
theorem dksX7_init_0 : cX7_init.data.toList.drop 0 = dktX7_init_0 := by decide +kernel
theorem dX7_init_0 : decode cX7_init 0 = .ok (.aload_n 0, 1) := dk_42 (dk_at dksX7_init_0 0 rfl rfl)
theorem dX7_init_1 : decode cX7_init 1 = .ok (.invokespecial 3, 3) := dk_183 0 3 (dk_at dksX7_init_0 1 rfl rfl)
theorem dX7_init_4 : decode cX7_init 4 = .ok (.aload_n 0, 1) := dk_42 (dk_at dksX7_init_0 4 rfl rfl)
theorem dX7_init_5 : decode cX7_init 5 = .ok (.iconst 2, 1) := dk_5 (dk_at dksX7_init_0 5 rfl rfl)
theorem dX7_init_6 : decode cX7_init 6 = .ok (.putfield 9, 3) := dk_181 0 9 (dk_at dksX7_init_0 6 rfl rfl)
theorem dX7_init_9 : decode cX7_init 9 = .ok (.aload_n 0, 1) := dk_42 (dk_at dksX7_init_0 9 rfl rfl)
theorem dX7_init_10 : decode cX7_init 10 = .ok (.iconst 0, 1) := dk_3 (dk_at dksX7_init_0 10 rfl rfl)
theorem dX7_init_11 : decode cX7_init 11 = .ok (.putfield 15, 3) := dk_181 0 15 (dk_at dksX7_init_0 11 rfl rfl)
theorem dX7_init_14 : decode cX7_init 14 = .ok (.return_, 1) := dk_177 (dk_at dksX7_init_0 14 rfl rfl)
abbrev cX7_goOn : ByteArray := prog_6_method_4_code
def yX7_goOn : MethodName := ⟨RX7, "goOn", "(II)Z"⟩
def dkwX7_goOn_5 : List UInt8 := [4, 167, 0, 4, 3, 172]
abbrev dktX7_goOn_5 : List UInt8 := dkwX7_goOn_5 ++ []
def dkwX7_goOn_4 : List UInt8 := [167, 0, 4, 3, 182, 0, 21, 29, 42, 180, 0, 15, 6, 160, 0, 7, 4, 167, 0, 4, 3, 159, 0, 7]
abbrev dktX7_goOn_4 : List UInt8 := dkwX7_goOn_4 ++ dktX7_goOn_5
def dkwX7_goOn_3 : List UInt8 := [42, 180, 0, 18, 154, 0, 26, 42, 42, 180, 0, 15, 4, 96, 42, 180, 0, 15, 4, 160, 0, 7, 28]
abbrev dktX7_goOn_3 : List UInt8 := dkwX7_goOn_3 ++ dktX7_goOn_4
def dkwX7_goOn_2 : List UInt8 := [182, 0, 21, 167, 0, 51, 42, 180, 0, 15, 6, 159, 0, 43, 42, 89, 180, 0, 18, 4, 100, 181, 0, 18]
abbrev dktX7_goOn_2 : List UInt8 := dkwX7_goOn_2 ++ dktX7_goOn_3
def dkwX7_goOn_1 : List UInt8 := [160, 0, 12, 42, 3, 3, 182, 0, 21, 167, 0, 67, 42, 180, 0, 15, 154, 0, 12, 42, 4, 28]
abbrev dktX7_goOn_1 : List UInt8 := dkwX7_goOn_1 ++ dktX7_goOn_2
def dkwX7_goOn_0 : List UInt8 := [42, 180, 0, 15, 6, 160, 0, 7, 4, 167, 0, 4, 3, 62, 42, 27, 181, 0, 9, 42, 180, 0, 9, 5]
abbrev dktX7_goOn_0 : List UInt8 := dkwX7_goOn_0 ++ dktX7_goOn_1
theorem dksX7_goOn_0 : cX7_goOn.data.toList.drop 0 = dktX7_goOn_0 := by decide +kernel
theorem dksX7_goOn_1 : cX7_goOn.data.toList.drop 24 = dktX7_goOn_1 := dk_seg dksX7_goOn_0 24 rfl rfl
theorem dksX7_goOn_2 : cX7_goOn.data.toList.drop 46 = dktX7_goOn_2 := dk_seg dksX7_goOn_1 22 rfl rfl
theorem dksX7_goOn_3 : cX7_goOn.data.toList.drop 70 = dktX7_goOn_3 := dk_seg dksX7_goOn_2 24 rfl rfl
theorem dksX7_goOn_4 : cX7_goOn.data.toList.drop 93 = dktX7_goOn_4 := dk_seg dksX7_goOn_3 23 rfl rfl
theorem dksX7_goOn_5 : cX7_goOn.data.toList.drop 117 = dktX7_goOn_5 := dk_seg dksX7_goOn_4 24 rfl rfl
theorem dX7_goOn_0 : decode cX7_goOn 0 = .ok (.aload_n 0, 1) := dk_42 (dk_at dksX7_goOn_0 0 rfl rfl)
theorem dX7_goOn_1 : decode cX7_goOn 1 = .ok (.getfield 15, 3) := dk_180 0 15 (dk_at dksX7_goOn_0 1 rfl rfl)
theorem dX7_goOn_4 : decode cX7_goOn 4 = .ok (.iconst 3, 1) := dk_6 (dk_at dksX7_goOn_0 4 rfl rfl)
theorem dX7_goOn_5 : decode cX7_goOn 5 = .ok (.if_icmp .ne 7, 3) := dk_160 0 7 (dk_at dksX7_goOn_0 5 rfl rfl)
theorem dX7_goOn_8 : decode cX7_goOn 8 = .ok (.iconst 1, 1) := dk_4 (dk_at dksX7_goOn_0 8 rfl rfl)
theorem dX7_goOn_9 : decode cX7_goOn 9 = .ok (.goto 4, 3) := dk_167 0 4 (dk_at dksX7_goOn_0 9 rfl rfl)
theorem dX7_goOn_12 : decode cX7_goOn 12 = .ok (.iconst 0, 1) := dk_3 (dk_at dksX7_goOn_0 12 rfl rfl)
theorem dX7_goOn_13 : decode cX7_goOn 13 = .ok (.istore_n 3, 1) := dk_62 (dk_at dksX7_goOn_0 13 rfl rfl)
theorem dX7_goOn_14 : decode cX7_goOn 14 = .ok (.aload_n 0, 1) := dk_42 (dk_at dksX7_goOn_0 14 rfl rfl)
theorem dX7_goOn_15 : decode cX7_goOn 15 = .ok (.iload_n 1, 1) := dk_27 (dk_at dksX7_goOn_0 15 rfl rfl)
theorem dX7_goOn_16 : decode cX7_goOn 16 = .ok (.putfield 9, 3) := dk_181 0 9 (dk_at dksX7_goOn_0 16 rfl rfl)
theorem dX7_goOn_19 : decode cX7_goOn 19 = .ok (.aload_n 0, 1) := dk_42 (dk_at dksX7_goOn_0 19 rfl rfl)
theorem dX7_goOn_20 : decode cX7_goOn 20 = .ok (.getfield 9, 3) := dk_180 0 9 (dk_at dksX7_goOn_0 20 rfl rfl)
theorem dX7_goOn_23 : decode cX7_goOn 23 = .ok (.iconst 2, 1) := dk_5 (dk_at dksX7_goOn_0 23 rfl rfl)
theorem dX7_goOn_24 : decode cX7_goOn 24 = .ok (.if_icmp .ne 12, 3) := dk_160 0 12 (dk_at dksX7_goOn_1 0 rfl rfl)
theorem dX7_goOn_27 : decode cX7_goOn 27 = .ok (.aload_n 0, 1) := dk_42 (dk_at dksX7_goOn_1 3 rfl rfl)
theorem dX7_goOn_28 : decode cX7_goOn 28 = .ok (.iconst 0, 1) := dk_3 (dk_at dksX7_goOn_1 4 rfl rfl)
theorem dX7_goOn_29 : decode cX7_goOn 29 = .ok (.iconst 0, 1) := dk_3 (dk_at dksX7_goOn_1 5 rfl rfl)
theorem dX7_goOn_30 : decode cX7_goOn 30 = .ok (.invokevirtual 21, 3) := dk_182 0 21 (dk_at dksX7_goOn_1 6 rfl rfl)
theorem dX7_goOn_33 : decode cX7_goOn 33 = .ok (.goto 67, 3) := dk_167 0 67 (dk_at dksX7_goOn_1 9 rfl rfl)
theorem dX7_goOn_36 : decode cX7_goOn 36 = .ok (.aload_n 0, 1) := dk_42 (dk_at dksX7_goOn_1 12 rfl rfl)
theorem dX7_goOn_37 : decode cX7_goOn 37 = .ok (.getfield 15, 3) := dk_180 0 15 (dk_at dksX7_goOn_1 13 rfl rfl)
theorem dX7_goOn_40 : decode cX7_goOn 40 = .ok (.ifCond .ne 12, 3) := dk_154 0 12 (dk_at dksX7_goOn_1 16 rfl rfl)
theorem dX7_goOn_43 : decode cX7_goOn 43 = .ok (.aload_n 0, 1) := dk_42 (dk_at dksX7_goOn_1 19 rfl rfl)
theorem dX7_goOn_44 : decode cX7_goOn 44 = .ok (.iconst 1, 1) := dk_4 (dk_at dksX7_goOn_1 20 rfl rfl)
theorem dX7_goOn_45 : decode cX7_goOn 45 = .ok (.iload_n 2, 1) := dk_28 (dk_at dksX7_goOn_1 21 rfl rfl)
theorem dX7_goOn_46 : decode cX7_goOn 46 = .ok (.invokevirtual 21, 3) := dk_182 0 21 (dk_at dksX7_goOn_2 0 rfl rfl)
theorem dX7_goOn_49 : decode cX7_goOn 49 = .ok (.goto 51, 3) := dk_167 0 51 (dk_at dksX7_goOn_2 3 rfl rfl)
theorem dX7_goOn_52 : decode cX7_goOn 52 = .ok (.aload_n 0, 1) := dk_42 (dk_at dksX7_goOn_2 6 rfl rfl)
theorem dX7_goOn_53 : decode cX7_goOn 53 = .ok (.getfield 15, 3) := dk_180 0 15 (dk_at dksX7_goOn_2 7 rfl rfl)
theorem dX7_goOn_56 : decode cX7_goOn 56 = .ok (.iconst 3, 1) := dk_6 (dk_at dksX7_goOn_2 10 rfl rfl)
theorem dX7_goOn_57 : decode cX7_goOn 57 = .ok (.if_icmp .eq 43, 3) := dk_159 0 43 (dk_at dksX7_goOn_2 11 rfl rfl)
theorem dX7_goOn_60 : decode cX7_goOn 60 = .ok (.aload_n 0, 1) := dk_42 (dk_at dksX7_goOn_2 14 rfl rfl)
theorem dX7_goOn_61 : decode cX7_goOn 61 = .ok (.dup, 1) := dk_89 (dk_at dksX7_goOn_2 15 rfl rfl)
theorem dX7_goOn_62 : decode cX7_goOn 62 = .ok (.getfield 18, 3) := dk_180 0 18 (dk_at dksX7_goOn_2 16 rfl rfl)
theorem dX7_goOn_65 : decode cX7_goOn 65 = .ok (.iconst 1, 1) := dk_4 (dk_at dksX7_goOn_2 19 rfl rfl)
theorem dX7_goOn_66 : decode cX7_goOn 66 = .ok (.isub, 1) := dk_100 (dk_at dksX7_goOn_2 20 rfl rfl)
theorem dX7_goOn_67 : decode cX7_goOn 67 = .ok (.putfield 18, 3) := dk_181 0 18 (dk_at dksX7_goOn_2 21 rfl rfl)
theorem dX7_goOn_70 : decode cX7_goOn 70 = .ok (.aload_n 0, 1) := dk_42 (dk_at dksX7_goOn_3 0 rfl rfl)
theorem dX7_goOn_71 : decode cX7_goOn 71 = .ok (.getfield 18, 3) := dk_180 0 18 (dk_at dksX7_goOn_3 1 rfl rfl)
theorem dX7_goOn_74 : decode cX7_goOn 74 = .ok (.ifCond .ne 26, 3) := dk_154 0 26 (dk_at dksX7_goOn_3 4 rfl rfl)
theorem dX7_goOn_77 : decode cX7_goOn 77 = .ok (.aload_n 0, 1) := dk_42 (dk_at dksX7_goOn_3 7 rfl rfl)
theorem dX7_goOn_78 : decode cX7_goOn 78 = .ok (.aload_n 0, 1) := dk_42 (dk_at dksX7_goOn_3 8 rfl rfl)
theorem dX7_goOn_79 : decode cX7_goOn 79 = .ok (.getfield 15, 3) := dk_180 0 15 (dk_at dksX7_goOn_3 9 rfl rfl)
theorem dX7_goOn_82 : decode cX7_goOn 82 = .ok (.iconst 1, 1) := dk_4 (dk_at dksX7_goOn_3 12 rfl rfl)
theorem dX7_goOn_83 : decode cX7_goOn 83 = .ok (.iadd, 1) := dk_96 (dk_at dksX7_goOn_3 13 rfl rfl)
theorem dX7_goOn_84 : decode cX7_goOn 84 = .ok (.aload_n 0, 1) := dk_42 (dk_at dksX7_goOn_3 14 rfl rfl)
theorem dX7_goOn_85 : decode cX7_goOn 85 = .ok (.getfield 15, 3) := dk_180 0 15 (dk_at dksX7_goOn_3 15 rfl rfl)
theorem dX7_goOn_88 : decode cX7_goOn 88 = .ok (.iconst 1, 1) := dk_4 (dk_at dksX7_goOn_3 18 rfl rfl)
theorem dX7_goOn_89 : decode cX7_goOn 89 = .ok (.if_icmp .ne 7, 3) := dk_160 0 7 (dk_at dksX7_goOn_3 19 rfl rfl)
theorem dX7_goOn_92 : decode cX7_goOn 92 = .ok (.iload_n 2, 1) := dk_28 (dk_at dksX7_goOn_3 22 rfl rfl)
theorem dX7_goOn_93 : decode cX7_goOn 93 = .ok (.goto 4, 3) := dk_167 0 4 (dk_at dksX7_goOn_4 0 rfl rfl)
theorem dX7_goOn_96 : decode cX7_goOn 96 = .ok (.iconst 0, 1) := dk_3 (dk_at dksX7_goOn_4 3 rfl rfl)
theorem dX7_goOn_97 : decode cX7_goOn 97 = .ok (.invokevirtual 21, 3) := dk_182 0 21 (dk_at dksX7_goOn_4 4 rfl rfl)
theorem dX7_goOn_100 : decode cX7_goOn 100 = .ok (.iload_n 3, 1) := dk_29 (dk_at dksX7_goOn_4 7 rfl rfl)
theorem dX7_goOn_101 : decode cX7_goOn 101 = .ok (.aload_n 0, 1) := dk_42 (dk_at dksX7_goOn_4 8 rfl rfl)
theorem dX7_goOn_102 : decode cX7_goOn 102 = .ok (.getfield 15, 3) := dk_180 0 15 (dk_at dksX7_goOn_4 9 rfl rfl)
theorem dX7_goOn_105 : decode cX7_goOn 105 = .ok (.iconst 3, 1) := dk_6 (dk_at dksX7_goOn_4 12 rfl rfl)
theorem dX7_goOn_106 : decode cX7_goOn 106 = .ok (.if_icmp .ne 7, 3) := dk_160 0 7 (dk_at dksX7_goOn_4 13 rfl rfl)
theorem dX7_goOn_109 : decode cX7_goOn 109 = .ok (.iconst 1, 1) := dk_4 (dk_at dksX7_goOn_4 16 rfl rfl)
theorem dX7_goOn_110 : decode cX7_goOn 110 = .ok (.goto 4, 3) := dk_167 0 4 (dk_at dksX7_goOn_4 17 rfl rfl)
theorem dX7_goOn_113 : decode cX7_goOn 113 = .ok (.iconst 0, 1) := dk_3 (dk_at dksX7_goOn_4 20 rfl rfl)
theorem dX7_goOn_114 : decode cX7_goOn 114 = .ok (.if_icmp .eq 7, 3) := dk_159 0 7 (dk_at dksX7_goOn_4 21 rfl rfl)
theorem dX7_goOn_117 : decode cX7_goOn 117 = .ok (.iconst 1, 1) := dk_4 (dk_at dksX7_goOn_5 0 rfl rfl)
theorem dX7_goOn_118 : decode cX7_goOn 118 = .ok (.goto 4, 3) := dk_167 0 4 (dk_at dksX7_goOn_5 1 rfl rfl)
theorem dX7_goOn_121 : decode cX7_goOn 121 = .ok (.iconst 0, 1) := dk_3 (dk_at dksX7_goOn_5 4 rfl rfl)
theorem dX7_goOn_122 : decode cX7_goOn 122 = .ok (.ireturn, 1) := dk_172 (dk_at dksX7_goOn_5 5 rfl rfl)
abbrev cX7_enter : ByteArray := prog_6_method_3_code
def yX7_enter : MethodName := ⟨RX7, "enter", "(II)V"⟩
def dkwX7_enter_0 : List UInt8 := [42, 27, 181, 0, 15, 42, 28, 181, 0, 18, 177]
abbrev dktX7_enter_0 : List UInt8 := dkwX7_enter_0 ++ []
theorem dksX7_enter_0 : cX7_enter.data.toList.drop 0 = dktX7_enter_0 := by decide +kernel
theorem dX7_enter_0 : decode cX7_enter 0 = .ok (.aload_n 0, 1) := dk_42 (dk_at dksX7_enter_0 0 rfl rfl)
theorem dX7_enter_1 : decode cX7_enter 1 = .ok (.iload_n 1, 1) := dk_27 (dk_at dksX7_enter_0 1 rfl rfl)
theorem dX7_enter_2 : decode cX7_enter 2 = .ok (.putfield 15, 3) := dk_181 0 15 (dk_at dksX7_enter_0 2 rfl rfl)
theorem dX7_enter_5 : decode cX7_enter 5 = .ok (.aload_n 0, 1) := dk_42 (dk_at dksX7_enter_0 5 rfl rfl)
theorem dX7_enter_6 : decode cX7_enter 6 = .ok (.iload_n 2, 1) := dk_28 (dk_at dksX7_enter_0 6 rfl rfl)
theorem dX7_enter_7 : decode cX7_enter 7 = .ok (.putfield 18, 3) := dk_181 0 18 (dk_at dksX7_enter_0 7 rfl rfl)
theorem dX7_enter_10 : decode cX7_enter 10 = .ok (.return_, 1) := dk_177 (dk_at dksX7_enter_0 10 rfl rfl)
abbrev cX7_take : ByteArray := prog_6_method_2_code
def yX7_take : MethodName := ⟨RX7, "take", "(LBridgeAuction$Port;)V"⟩
def dkwX7_take_1 : List UInt8 := [177]
abbrev dktX7_take_1 : List UInt8 := dkwX7_take_1 ++ []
def dkwX7_take_0 : List UInt8 := [42, 43, 180, 0, 9, 181, 0, 9, 42, 43, 180, 0, 15, 181, 0, 15, 42, 43, 180, 0, 18, 181, 0, 18]
abbrev dktX7_take_0 : List UInt8 := dkwX7_take_0 ++ dktX7_take_1
theorem dksX7_take_0 : cX7_take.data.toList.drop 0 = dktX7_take_0 := by decide +kernel
theorem dksX7_take_1 : cX7_take.data.toList.drop 24 = dktX7_take_1 := dk_seg dksX7_take_0 24 rfl rfl
theorem dX7_take_0 : decode cX7_take 0 = .ok (.aload_n 0, 1) := dk_42 (dk_at dksX7_take_0 0 rfl rfl)
theorem dX7_take_1 : decode cX7_take 1 = .ok (.aload_n 1, 1) := dk_43 (dk_at dksX7_take_0 1 rfl rfl)
theorem dX7_take_2 : decode cX7_take 2 = .ok (.getfield 9, 3) := dk_180 0 9 (dk_at dksX7_take_0 2 rfl rfl)
theorem dX7_take_5 : decode cX7_take 5 = .ok (.putfield 9, 3) := dk_181 0 9 (dk_at dksX7_take_0 5 rfl rfl)
theorem dX7_take_8 : decode cX7_take 8 = .ok (.aload_n 0, 1) := dk_42 (dk_at dksX7_take_0 8 rfl rfl)
theorem dX7_take_9 : decode cX7_take 9 = .ok (.aload_n 1, 1) := dk_43 (dk_at dksX7_take_0 9 rfl rfl)
theorem dX7_take_10 : decode cX7_take 10 = .ok (.getfield 15, 3) := dk_180 0 15 (dk_at dksX7_take_0 10 rfl rfl)
theorem dX7_take_13 : decode cX7_take 13 = .ok (.putfield 15, 3) := dk_181 0 15 (dk_at dksX7_take_0 13 rfl rfl)
theorem dX7_take_16 : decode cX7_take 16 = .ok (.aload_n 0, 1) := dk_42 (dk_at dksX7_take_0 16 rfl rfl)
theorem dX7_take_17 : decode cX7_take 17 = .ok (.aload_n 1, 1) := dk_43 (dk_at dksX7_take_0 17 rfl rfl)
theorem dX7_take_18 : decode cX7_take 18 = .ok (.getfield 18, 3) := dk_180 0 18 (dk_at dksX7_take_0 18 rfl rfl)
theorem dX7_take_21 : decode cX7_take 21 = .ok (.putfield 18, 3) := dk_181 0 18 (dk_at dksX7_take_0 21 rfl rfl)
theorem dX7_take_24 : decode cX7_take 24 = .ok (.return_, 1) := dk_177 (dk_at dksX7_take_1 0 rfl rfl)
abbrev cX7_value : ByteArray := prog_6_method_5_code
def yX7_value : MethodName := ⟨RX7, "value", "(I)I"⟩
def dkwX7_value_1 : List UInt8 := [180, 0, 18, 172]
abbrev dktX7_value_1 : List UInt8 := dkwX7_value_1 ++ []
def dkwX7_value_0 : List UInt8 := [27, 154, 0, 10, 42, 180, 0, 9, 167, 0, 19, 27, 4, 160, 0, 10, 42, 180, 0, 15, 167, 0, 7, 42]
abbrev dktX7_value_0 : List UInt8 := dkwX7_value_0 ++ dktX7_value_1
theorem dksX7_value_0 : cX7_value.data.toList.drop 0 = dktX7_value_0 := by decide +kernel
theorem dksX7_value_1 : cX7_value.data.toList.drop 24 = dktX7_value_1 := dk_seg dksX7_value_0 24 rfl rfl
theorem dX7_value_0 : decode cX7_value 0 = .ok (.iload_n 1, 1) := dk_27 (dk_at dksX7_value_0 0 rfl rfl)
theorem dX7_value_1 : decode cX7_value 1 = .ok (.ifCond .ne 10, 3) := dk_154 0 10 (dk_at dksX7_value_0 1 rfl rfl)
theorem dX7_value_4 : decode cX7_value 4 = .ok (.aload_n 0, 1) := dk_42 (dk_at dksX7_value_0 4 rfl rfl)
theorem dX7_value_5 : decode cX7_value 5 = .ok (.getfield 9, 3) := dk_180 0 9 (dk_at dksX7_value_0 5 rfl rfl)
theorem dX7_value_8 : decode cX7_value 8 = .ok (.goto 19, 3) := dk_167 0 19 (dk_at dksX7_value_0 8 rfl rfl)
theorem dX7_value_11 : decode cX7_value 11 = .ok (.iload_n 1, 1) := dk_27 (dk_at dksX7_value_0 11 rfl rfl)
theorem dX7_value_12 : decode cX7_value 12 = .ok (.iconst 1, 1) := dk_4 (dk_at dksX7_value_0 12 rfl rfl)
theorem dX7_value_13 : decode cX7_value 13 = .ok (.if_icmp .ne 10, 3) := dk_160 0 10 (dk_at dksX7_value_0 13 rfl rfl)
theorem dX7_value_16 : decode cX7_value 16 = .ok (.aload_n 0, 1) := dk_42 (dk_at dksX7_value_0 16 rfl rfl)
theorem dX7_value_17 : decode cX7_value 17 = .ok (.getfield 15, 3) := dk_180 0 15 (dk_at dksX7_value_0 17 rfl rfl)
theorem dX7_value_20 : decode cX7_value 20 = .ok (.goto 7, 3) := dk_167 0 7 (dk_at dksX7_value_0 20 rfl rfl)
theorem dX7_value_23 : decode cX7_value 23 = .ok (.aload_n 0, 1) := dk_42 (dk_at dksX7_value_0 23 rfl rfl)
theorem dX7_value_24 : decode cX7_value 24 = .ok (.getfield 18, 3) := dk_180 0 18 (dk_at dksX7_value_1 0 rfl rfl)
theorem dX7_value_27 : decode cX7_value 27 = .ok (.ireturn, 1) := dk_172 (dk_at dksX7_value_1 3 rfl rfl)
