set_option maxRecDepth 100000
abbrev cX8_comesBefore : ByteArray := prog_7_method_5_code
def yX8_comesBefore : MethodName := ⟨RX8, "comesBefore", "(LBridgeAuction$Ranked;)Z"⟩
def dkwX8_comesBefore_0 : List UInt8 := [42, 43, 184, 0, 13, 156, 0, 7, 4, 167, 0, 4, 3, 172]
abbrev dktX8_comesBefore_0 : List UInt8 := dkwX8_comesBefore_0 ++ []
theorem dksX8_comesBefore_0 : cX8_comesBefore.data.toList.drop 0 = dktX8_comesBefore_0 := by decide +kernel
theorem dX8_comesBefore_0 : decode cX8_comesBefore 0 = .ok (.aload_n 0, 1) := dk_42 (dk_at dksX8_comesBefore_0 0 rfl rfl)
theorem dX8_comesBefore_1 : decode cX8_comesBefore 1 = .ok (.aload_n 1, 1) := dk_43 (dk_at dksX8_comesBefore_0 1 rfl rfl)
theorem dX8_comesBefore_2 : decode cX8_comesBefore 2 = .ok (.invokestatic 13, 3) := dk_184 0 13 (dk_at dksX8_comesBefore_0 2 rfl rfl)
theorem dX8_comesBefore_5 : decode cX8_comesBefore 5 = .ok (.ifCond .ge 7, 3) := dk_156 0 7 (dk_at dksX8_comesBefore_0 5 rfl rfl)
theorem dX8_comesBefore_8 : decode cX8_comesBefore 8 = .ok (.iconst 1, 1) := dk_4 (dk_at dksX8_comesBefore_0 8 rfl rfl)
theorem dX8_comesBefore_9 : decode cX8_comesBefore 9 = .ok (.goto 4, 3) := dk_167 0 4 (dk_at dksX8_comesBefore_0 9 rfl rfl)
theorem dX8_comesBefore_12 : decode cX8_comesBefore 12 = .ok (.iconst 0, 1) := dk_3 (dk_at dksX8_comesBefore_0 12 rfl rfl)
theorem dX8_comesBefore_13 : decode cX8_comesBefore 13 = .ok (.ireturn, 1) := dk_172 (dk_at dksX8_comesBefore_0 13 rfl rfl)
abbrev cX8_compare : ByteArray := prog_7_method_4_code
def yX8_compare : MethodName := ⟨RX8, "compare", "(LBridgeAuction$Ranked;LBridgeAuction$Ranked;)I"⟩
def dkwX8_compare_3 : List UInt8 := [185, 0, 10, 1, 0, 100, 172]
abbrev dktX8_compare_3 : List UInt8 := dkwX8_compare_3 ++ []
def dkwX8_compare_2 : List UInt8 := [185, 0, 7, 1, 0, 43, 185, 0, 7, 1, 0, 100, 167, 0, 16, 42, 185, 0, 10, 1, 0, 43]
abbrev dktX8_compare_2 : List UInt8 := dkwX8_compare_2 ++ dktX8_compare_3
def dkwX8_compare_1 : List UInt8 := [185, 0, 1, 1, 0, 100, 172, 42, 185, 0, 7, 1, 0, 43, 185, 0, 7, 1, 0, 159, 0, 19, 42]
abbrev dktX8_compare_1 : List UInt8 := dkwX8_compare_1 ++ dktX8_compare_2
def dkwX8_compare_0 : List UInt8 := [42, 185, 0, 1, 1, 0, 43, 185, 0, 1, 1, 0, 159, 0, 17, 42, 185, 0, 1, 1, 0, 43]
abbrev dktX8_compare_0 : List UInt8 := dkwX8_compare_0 ++ dktX8_compare_1
theorem dksX8_compare_0 : cX8_compare.data.toList.drop 0 = dktX8_compare_0 := by decide +kernel
theorem dksX8_compare_1 : cX8_compare.data.toList.drop 22 = dktX8_compare_1 := dk_seg dksX8_compare_0 22 rfl rfl
theorem dksX8_compare_2 : cX8_compare.data.toList.drop 45 = dktX8_compare_2 := dk_seg dksX8_compare_1 23 rfl rfl
theorem dksX8_compare_3 : cX8_compare.data.toList.drop 67 = dktX8_compare_3 := dk_seg dksX8_compare_2 22 rfl rfl
theorem dX8_compare_0 : decode cX8_compare 0 = .ok (.aload_n 0, 1) := dk_42 (dk_at dksX8_compare_0 0 rfl rfl)
theorem dX8_compare_1 : decode cX8_compare 1 = .ok (.invokeinterface 1 1, 5) := by decide +kernel
theorem dX8_compare_6 : decode cX8_compare 6 = .ok (.aload_n 1, 1) := dk_43 (dk_at dksX8_compare_0 6 rfl rfl)
theorem dX8_compare_7 : decode cX8_compare 7 = .ok (.invokeinterface 1 1, 5) := by decide +kernel
theorem dX8_compare_12 : decode cX8_compare 12 = .ok (.if_icmp .eq 17, 3) := dk_159 0 17 (dk_at dksX8_compare_0 12 rfl rfl)
theorem dX8_compare_15 : decode cX8_compare 15 = .ok (.aload_n 0, 1) := dk_42 (dk_at dksX8_compare_0 15 rfl rfl)
theorem dX8_compare_16 : decode cX8_compare 16 = .ok (.invokeinterface 1 1, 5) := by decide +kernel
theorem dX8_compare_21 : decode cX8_compare 21 = .ok (.aload_n 1, 1) := dk_43 (dk_at dksX8_compare_0 21 rfl rfl)
theorem dX8_compare_22 : decode cX8_compare 22 = .ok (.invokeinterface 1 1, 5) := by decide +kernel
theorem dX8_compare_27 : decode cX8_compare 27 = .ok (.isub, 1) := dk_100 (dk_at dksX8_compare_1 5 rfl rfl)
theorem dX8_compare_28 : decode cX8_compare 28 = .ok (.ireturn, 1) := dk_172 (dk_at dksX8_compare_1 6 rfl rfl)
theorem dX8_compare_29 : decode cX8_compare 29 = .ok (.aload_n 0, 1) := dk_42 (dk_at dksX8_compare_1 7 rfl rfl)
theorem dX8_compare_30 : decode cX8_compare 30 = .ok (.invokeinterface 7 1, 5) := by decide +kernel
theorem dX8_compare_35 : decode cX8_compare 35 = .ok (.aload_n 1, 1) := dk_43 (dk_at dksX8_compare_1 13 rfl rfl)
theorem dX8_compare_36 : decode cX8_compare 36 = .ok (.invokeinterface 7 1, 5) := by decide +kernel
theorem dX8_compare_41 : decode cX8_compare 41 = .ok (.if_icmp .eq 19, 3) := dk_159 0 19 (dk_at dksX8_compare_1 19 rfl rfl)
theorem dX8_compare_44 : decode cX8_compare 44 = .ok (.aload_n 0, 1) := dk_42 (dk_at dksX8_compare_1 22 rfl rfl)
theorem dX8_compare_45 : decode cX8_compare 45 = .ok (.invokeinterface 7 1, 5) := by decide +kernel
theorem dX8_compare_50 : decode cX8_compare 50 = .ok (.aload_n 1, 1) := dk_43 (dk_at dksX8_compare_2 5 rfl rfl)
theorem dX8_compare_51 : decode cX8_compare 51 = .ok (.invokeinterface 7 1, 5) := by decide +kernel
theorem dX8_compare_56 : decode cX8_compare 56 = .ok (.isub, 1) := dk_100 (dk_at dksX8_compare_2 11 rfl rfl)
theorem dX8_compare_57 : decode cX8_compare 57 = .ok (.goto 16, 3) := dk_167 0 16 (dk_at dksX8_compare_2 12 rfl rfl)
theorem dX8_compare_60 : decode cX8_compare 60 = .ok (.aload_n 0, 1) := dk_42 (dk_at dksX8_compare_2 15 rfl rfl)
theorem dX8_compare_61 : decode cX8_compare 61 = .ok (.invokeinterface 10 1, 5) := by decide +kernel
theorem dX8_compare_66 : decode cX8_compare 66 = .ok (.aload_n 1, 1) := dk_43 (dk_at dksX8_compare_2 21 rfl rfl)
theorem dX8_compare_67 : decode cX8_compare 67 = .ok (.invokeinterface 10 1, 5) := by decide +kernel
theorem dX8_compare_72 : decode cX8_compare 72 = .ok (.isub, 1) := dk_100 (dk_at dksX8_compare_3 5 rfl rfl)
theorem dX8_compare_73 : decode cX8_compare 73 = .ok (.ireturn, 1) := dk_172 (dk_at dksX8_compare_3 6 rfl rfl)
