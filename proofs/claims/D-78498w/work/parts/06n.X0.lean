set_option maxRecDepth 100000
abbrev cX0_setBridges : ByteArray := method_3_code
def yX0_setBridges : MethodName := ⟨RX0, "setBridges", "(LBridgeAuction;I[J)I"⟩
def dkwX0_setBridges_0 : List UInt8 := [44, 3, 42, 27, 182, 0, 7, 133, 80, 167, 0, 6, 78, 4, 172, 3, 172]
abbrev dktX0_setBridges_0 : List UInt8 := dkwX0_setBridges_0 ++ []
theorem dksX0_setBridges_0 : cX0_setBridges.data.toList.drop 0 = dktX0_setBridges_0 := by decide +kernel
theorem dX0_setBridges_0 : decode cX0_setBridges 0 = .ok (.aload_n 2, 1) := dk_44 (dk_at dksX0_setBridges_0 0 rfl rfl)
theorem dX0_setBridges_1 : decode cX0_setBridges 1 = .ok (.iconst 0, 1) := dk_3 (dk_at dksX0_setBridges_0 1 rfl rfl)
theorem dX0_setBridges_2 : decode cX0_setBridges 2 = .ok (.aload_n 0, 1) := dk_42 (dk_at dksX0_setBridges_0 2 rfl rfl)
theorem dX0_setBridges_3 : decode cX0_setBridges 3 = .ok (.iload_n 1, 1) := dk_27 (dk_at dksX0_setBridges_0 3 rfl rfl)
theorem dX0_setBridges_4 : decode cX0_setBridges 4 = .ok (.invokevirtual 7, 3) := dk_182 0 7 (dk_at dksX0_setBridges_0 4 rfl rfl)
theorem dX0_setBridges_7 : decode cX0_setBridges 7 = .ok (.i2l, 1) := dk_133 (dk_at dksX0_setBridges_0 7 rfl rfl)
theorem dX0_setBridges_8 : decode cX0_setBridges 8 = .ok (.lastore, 1) := dk_80 (dk_at dksX0_setBridges_0 8 rfl rfl)
theorem dX0_setBridges_9 : decode cX0_setBridges 9 = .ok (.goto 6, 3) := dk_167 0 6 (dk_at dksX0_setBridges_0 9 rfl rfl)
theorem dX0_setBridges_12 : decode cX0_setBridges 12 = .ok (.astore_n 3, 1) := dk_78 (dk_at dksX0_setBridges_0 12 rfl rfl)
theorem dX0_setBridges_13 : decode cX0_setBridges 13 = .ok (.iconst 1, 1) := dk_4 (dk_at dksX0_setBridges_0 13 rfl rfl)
theorem dX0_setBridges_14 : decode cX0_setBridges 14 = .ok (.ireturn, 1) := dk_172 (dk_at dksX0_setBridges_0 14 rfl rfl)
theorem dX0_setBridges_15 : decode cX0_setBridges 15 = .ok (.iconst 0, 1) := dk_3 (dk_at dksX0_setBridges_0 15 rfl rfl)
theorem dX0_setBridges_16 : decode cX0_setBridges 16 = .ok (.ireturn, 1) := dk_172 (dk_at dksX0_setBridges_0 16 rfl rfl)
abbrev cX0_setTimes : ByteArray := method_4_code
def yX0_setTimes : MethodName := ⟨RX0, "setTimes", "(LBridgeAuction;III[J)I"⟩
def dkwX0_setTimes_0 : List UInt8 := [25, 4, 3, 42, 27, 28, 29, 182, 0, 15, 133, 80, 167, 0, 7, 58, 5, 4, 172, 3, 172]
abbrev dktX0_setTimes_0 : List UInt8 := dkwX0_setTimes_0 ++ []
theorem dksX0_setTimes_0 : cX0_setTimes.data.toList.drop 0 = dktX0_setTimes_0 := by decide +kernel
theorem dX0_setTimes_0 : decode cX0_setTimes 0 = .ok (.aload 4, 2) := dk_25 4 (dk_at dksX0_setTimes_0 0 rfl rfl)
theorem dX0_setTimes_2 : decode cX0_setTimes 2 = .ok (.iconst 0, 1) := dk_3 (dk_at dksX0_setTimes_0 2 rfl rfl)
theorem dX0_setTimes_3 : decode cX0_setTimes 3 = .ok (.aload_n 0, 1) := dk_42 (dk_at dksX0_setTimes_0 3 rfl rfl)
theorem dX0_setTimes_4 : decode cX0_setTimes 4 = .ok (.iload_n 1, 1) := dk_27 (dk_at dksX0_setTimes_0 4 rfl rfl)
theorem dX0_setTimes_5 : decode cX0_setTimes 5 = .ok (.iload_n 2, 1) := dk_28 (dk_at dksX0_setTimes_0 5 rfl rfl)
theorem dX0_setTimes_6 : decode cX0_setTimes 6 = .ok (.iload_n 3, 1) := dk_29 (dk_at dksX0_setTimes_0 6 rfl rfl)
theorem dX0_setTimes_7 : decode cX0_setTimes 7 = .ok (.invokevirtual 15, 3) := dk_182 0 15 (dk_at dksX0_setTimes_0 7 rfl rfl)
theorem dX0_setTimes_10 : decode cX0_setTimes 10 = .ok (.i2l, 1) := dk_133 (dk_at dksX0_setTimes_0 10 rfl rfl)
theorem dX0_setTimes_11 : decode cX0_setTimes 11 = .ok (.lastore, 1) := dk_80 (dk_at dksX0_setTimes_0 11 rfl rfl)
theorem dX0_setTimes_12 : decode cX0_setTimes 12 = .ok (.goto 7, 3) := dk_167 0 7 (dk_at dksX0_setTimes_0 12 rfl rfl)
theorem dX0_setTimes_15 : decode cX0_setTimes 15 = .ok (.astore 5, 2) := dk_58 5 (dk_at dksX0_setTimes_0 15 rfl rfl)
theorem dX0_setTimes_17 : decode cX0_setTimes 17 = .ok (.iconst 1, 1) := dk_4 (dk_at dksX0_setTimes_0 17 rfl rfl)
theorem dX0_setTimes_18 : decode cX0_setTimes 18 = .ok (.ireturn, 1) := dk_172 (dk_at dksX0_setTimes_0 18 rfl rfl)
theorem dX0_setTimes_19 : decode cX0_setTimes 19 = .ok (.iconst 0, 1) := dk_3 (dk_at dksX0_setTimes_0 19 rfl rfl)
theorem dX0_setTimes_20 : decode cX0_setTimes 20 = .ok (.ireturn, 1) := dk_172 (dk_at dksX0_setTimes_0 20 rfl rfl)
abbrev cX0_setPriority : ByteArray := method_5_code
def yX0_setPriority : MethodName := ⟨RX0, "setPriority", "(LBridgeAuction;II[J)I"⟩
def dkwX0_setPriority_0 : List UInt8 := [45, 3, 42, 27, 28, 182, 0, 19, 133, 80, 167, 0, 11, 58, 4, 4, 172, 58, 4, 5, 172, 3, 172]
abbrev dktX0_setPriority_0 : List UInt8 := dkwX0_setPriority_0 ++ []
theorem dksX0_setPriority_0 : cX0_setPriority.data.toList.drop 0 = dktX0_setPriority_0 := by decide +kernel
theorem dX0_setPriority_0 : decode cX0_setPriority 0 = .ok (.aload_n 3, 1) := dk_45 (dk_at dksX0_setPriority_0 0 rfl rfl)
theorem dX0_setPriority_1 : decode cX0_setPriority 1 = .ok (.iconst 0, 1) := dk_3 (dk_at dksX0_setPriority_0 1 rfl rfl)
theorem dX0_setPriority_2 : decode cX0_setPriority 2 = .ok (.aload_n 0, 1) := dk_42 (dk_at dksX0_setPriority_0 2 rfl rfl)
theorem dX0_setPriority_3 : decode cX0_setPriority 3 = .ok (.iload_n 1, 1) := dk_27 (dk_at dksX0_setPriority_0 3 rfl rfl)
theorem dX0_setPriority_4 : decode cX0_setPriority 4 = .ok (.iload_n 2, 1) := dk_28 (dk_at dksX0_setPriority_0 4 rfl rfl)
theorem dX0_setPriority_5 : decode cX0_setPriority 5 = .ok (.invokevirtual 19, 3) := dk_182 0 19 (dk_at dksX0_setPriority_0 5 rfl rfl)
theorem dX0_setPriority_8 : decode cX0_setPriority 8 = .ok (.i2l, 1) := dk_133 (dk_at dksX0_setPriority_0 8 rfl rfl)
theorem dX0_setPriority_9 : decode cX0_setPriority 9 = .ok (.lastore, 1) := dk_80 (dk_at dksX0_setPriority_0 9 rfl rfl)
theorem dX0_setPriority_10 : decode cX0_setPriority 10 = .ok (.goto 11, 3) := dk_167 0 11 (dk_at dksX0_setPriority_0 10 rfl rfl)
theorem dX0_setPriority_13 : decode cX0_setPriority 13 = .ok (.astore 4, 2) := dk_58 4 (dk_at dksX0_setPriority_0 13 rfl rfl)
theorem dX0_setPriority_15 : decode cX0_setPriority 15 = .ok (.iconst 1, 1) := dk_4 (dk_at dksX0_setPriority_0 15 rfl rfl)
theorem dX0_setPriority_16 : decode cX0_setPriority 16 = .ok (.ireturn, 1) := dk_172 (dk_at dksX0_setPriority_0 16 rfl rfl)
theorem dX0_setPriority_17 : decode cX0_setPriority 17 = .ok (.astore 4, 2) := dk_58 4 (dk_at dksX0_setPriority_0 17 rfl rfl)
theorem dX0_setPriority_19 : decode cX0_setPriority 19 = .ok (.iconst 2, 1) := dk_5 (dk_at dksX0_setPriority_0 19 rfl rfl)
theorem dX0_setPriority_20 : decode cX0_setPriority 20 = .ok (.ireturn, 1) := dk_172 (dk_at dksX0_setPriority_0 20 rfl rfl)
theorem dX0_setPriority_21 : decode cX0_setPriority 21 = .ok (.iconst 0, 1) := dk_3 (dk_at dksX0_setPriority_0 21 rfl rfl)
theorem dX0_setPriority_22 : decode cX0_setPriority 22 = .ok (.ireturn, 1) := dk_172 (dk_at dksX0_setPriority_0 22 rfl rfl)
abbrev cX0_addLink : ByteArray := method_6_code
def yX0_addLink : MethodName := ⟨RX0, "addLink", "(LBridgeAuction;III[J)I"⟩
def dkwX0_addLink_1 : List UInt8 := [58, 5, 6, 172, 3, 172]
abbrev dktX0_addLink_1 : List UInt8 := dkwX0_addLink_1 ++ []
def dkwX0_addLink_0 : List UInt8 := [25, 4, 3, 42, 27, 28, 29, 182, 0, 25, 133, 80, 167, 0, 15, 58, 5, 4, 172, 58, 5, 5, 172]
abbrev dktX0_addLink_0 : List UInt8 := dkwX0_addLink_0 ++ dktX0_addLink_1
theorem dksX0_addLink_0 : cX0_addLink.data.toList.drop 0 = dktX0_addLink_0 := by decide +kernel
theorem dksX0_addLink_1 : cX0_addLink.data.toList.drop 23 = dktX0_addLink_1 := dk_seg dksX0_addLink_0 23 rfl rfl
theorem dX0_addLink_0 : decode cX0_addLink 0 = .ok (.aload 4, 2) := dk_25 4 (dk_at dksX0_addLink_0 0 rfl rfl)
theorem dX0_addLink_2 : decode cX0_addLink 2 = .ok (.iconst 0, 1) := dk_3 (dk_at dksX0_addLink_0 2 rfl rfl)
theorem dX0_addLink_3 : decode cX0_addLink 3 = .ok (.aload_n 0, 1) := dk_42 (dk_at dksX0_addLink_0 3 rfl rfl)
theorem dX0_addLink_4 : decode cX0_addLink 4 = .ok (.iload_n 1, 1) := dk_27 (dk_at dksX0_addLink_0 4 rfl rfl)
theorem dX0_addLink_5 : decode cX0_addLink 5 = .ok (.iload_n 2, 1) := dk_28 (dk_at dksX0_addLink_0 5 rfl rfl)
theorem dX0_addLink_6 : decode cX0_addLink 6 = .ok (.iload_n 3, 1) := dk_29 (dk_at dksX0_addLink_0 6 rfl rfl)
theorem dX0_addLink_7 : decode cX0_addLink 7 = .ok (.invokevirtual 25, 3) := dk_182 0 25 (dk_at dksX0_addLink_0 7 rfl rfl)
theorem dX0_addLink_10 : decode cX0_addLink 10 = .ok (.i2l, 1) := dk_133 (dk_at dksX0_addLink_0 10 rfl rfl)
theorem dX0_addLink_11 : decode cX0_addLink 11 = .ok (.lastore, 1) := dk_80 (dk_at dksX0_addLink_0 11 rfl rfl)
theorem dX0_addLink_12 : decode cX0_addLink 12 = .ok (.goto 15, 3) := dk_167 0 15 (dk_at dksX0_addLink_0 12 rfl rfl)
theorem dX0_addLink_15 : decode cX0_addLink 15 = .ok (.astore 5, 2) := dk_58 5 (dk_at dksX0_addLink_0 15 rfl rfl)
theorem dX0_addLink_17 : decode cX0_addLink 17 = .ok (.iconst 1, 1) := dk_4 (dk_at dksX0_addLink_0 17 rfl rfl)
theorem dX0_addLink_18 : decode cX0_addLink 18 = .ok (.ireturn, 1) := dk_172 (dk_at dksX0_addLink_0 18 rfl rfl)
theorem dX0_addLink_19 : decode cX0_addLink 19 = .ok (.astore 5, 2) := dk_58 5 (dk_at dksX0_addLink_0 19 rfl rfl)
theorem dX0_addLink_21 : decode cX0_addLink 21 = .ok (.iconst 2, 1) := dk_5 (dk_at dksX0_addLink_0 21 rfl rfl)
theorem dX0_addLink_22 : decode cX0_addLink 22 = .ok (.ireturn, 1) := dk_172 (dk_at dksX0_addLink_0 22 rfl rfl)
theorem dX0_addLink_23 : decode cX0_addLink 23 = .ok (.astore 5, 2) := dk_58 5 (dk_at dksX0_addLink_1 0 rfl rfl)
theorem dX0_addLink_25 : decode cX0_addLink 25 = .ok (.iconst 3, 1) := dk_6 (dk_at dksX0_addLink_1 2 rfl rfl)
theorem dX0_addLink_26 : decode cX0_addLink 26 = .ok (.ireturn, 1) := dk_172 (dk_at dksX0_addLink_1 3 rfl rfl)
theorem dX0_addLink_27 : decode cX0_addLink 27 = .ok (.iconst 0, 1) := dk_3 (dk_at dksX0_addLink_1 4 rfl rfl)
theorem dX0_addLink_28 : decode cX0_addLink 28 = .ok (.ireturn, 1) := dk_172 (dk_at dksX0_addLink_1 5 rfl rfl)
abbrev cX0_fail : ByteArray := method_7_code
def yX0_fail : MethodName := ⟨RX0, "fail", "(LBridgeAuction;I[J)I"⟩
def dkwX0_fail_0 : List UInt8 := [44, 3, 42, 27, 182, 0, 30, 133, 80, 167, 0, 9, 78, 4, 172, 78, 5, 172, 3, 172]
abbrev dktX0_fail_0 : List UInt8 := dkwX0_fail_0 ++ []
theorem dksX0_fail_0 : cX0_fail.data.toList.drop 0 = dktX0_fail_0 := by decide +kernel
theorem dX0_fail_0 : decode cX0_fail 0 = .ok (.aload_n 2, 1) := dk_44 (dk_at dksX0_fail_0 0 rfl rfl)
theorem dX0_fail_1 : decode cX0_fail 1 = .ok (.iconst 0, 1) := dk_3 (dk_at dksX0_fail_0 1 rfl rfl)
theorem dX0_fail_2 : decode cX0_fail 2 = .ok (.aload_n 0, 1) := dk_42 (dk_at dksX0_fail_0 2 rfl rfl)
theorem dX0_fail_3 : decode cX0_fail 3 = .ok (.iload_n 1, 1) := dk_27 (dk_at dksX0_fail_0 3 rfl rfl)
theorem dX0_fail_4 : decode cX0_fail 4 = .ok (.invokevirtual 30, 3) := dk_182 0 30 (dk_at dksX0_fail_0 4 rfl rfl)
theorem dX0_fail_7 : decode cX0_fail 7 = .ok (.i2l, 1) := dk_133 (dk_at dksX0_fail_0 7 rfl rfl)
theorem dX0_fail_8 : decode cX0_fail 8 = .ok (.lastore, 1) := dk_80 (dk_at dksX0_fail_0 8 rfl rfl)
theorem dX0_fail_9 : decode cX0_fail 9 = .ok (.goto 9, 3) := dk_167 0 9 (dk_at dksX0_fail_0 9 rfl rfl)
theorem dX0_fail_12 : decode cX0_fail 12 = .ok (.astore_n 3, 1) := dk_78 (dk_at dksX0_fail_0 12 rfl rfl)
theorem dX0_fail_13 : decode cX0_fail 13 = .ok (.iconst 1, 1) := dk_4 (dk_at dksX0_fail_0 13 rfl rfl)
theorem dX0_fail_14 : decode cX0_fail 14 = .ok (.ireturn, 1) := dk_172 (dk_at dksX0_fail_0 14 rfl rfl)
theorem dX0_fail_15 : decode cX0_fail 15 = .ok (.astore_n 3, 1) := dk_78 (dk_at dksX0_fail_0 15 rfl rfl)
theorem dX0_fail_16 : decode cX0_fail 16 = .ok (.iconst 2, 1) := dk_5 (dk_at dksX0_fail_0 16 rfl rfl)
theorem dX0_fail_17 : decode cX0_fail 17 = .ok (.ireturn, 1) := dk_172 (dk_at dksX0_fail_0 17 rfl rfl)
theorem dX0_fail_18 : decode cX0_fail 18 = .ok (.iconst 0, 1) := dk_3 (dk_at dksX0_fail_0 18 rfl rfl)
theorem dX0_fail_19 : decode cX0_fail 19 = .ok (.ireturn, 1) := dk_172 (dk_at dksX0_fail_0 19 rfl rfl)
abbrev cX0_fix : ByteArray := method_8_code
def yX0_fix : MethodName := ⟨RX0, "fix", "(LBridgeAuction;I[J)I"⟩
def dkwX0_fix_0 : List UInt8 := [44, 3, 42, 27, 182, 0, 33, 133, 80, 167, 0, 9, 78, 4, 172, 78, 5, 172, 3, 172]
abbrev dktX0_fix_0 : List UInt8 := dkwX0_fix_0 ++ []
theorem dksX0_fix_0 : cX0_fix.data.toList.drop 0 = dktX0_fix_0 := by decide +kernel
theorem dX0_fix_0 : decode cX0_fix 0 = .ok (.aload_n 2, 1) := dk_44 (dk_at dksX0_fix_0 0 rfl rfl)
theorem dX0_fix_1 : decode cX0_fix 1 = .ok (.iconst 0, 1) := dk_3 (dk_at dksX0_fix_0 1 rfl rfl)
theorem dX0_fix_2 : decode cX0_fix 2 = .ok (.aload_n 0, 1) := dk_42 (dk_at dksX0_fix_0 2 rfl rfl)
theorem dX0_fix_3 : decode cX0_fix 3 = .ok (.iload_n 1, 1) := dk_27 (dk_at dksX0_fix_0 3 rfl rfl)
theorem dX0_fix_4 : decode cX0_fix 4 = .ok (.invokevirtual 33, 3) := dk_182 0 33 (dk_at dksX0_fix_0 4 rfl rfl)
theorem dX0_fix_7 : decode cX0_fix 7 = .ok (.i2l, 1) := dk_133 (dk_at dksX0_fix_0 7 rfl rfl)
theorem dX0_fix_8 : decode cX0_fix 8 = .ok (.lastore, 1) := dk_80 (dk_at dksX0_fix_0 8 rfl rfl)
theorem dX0_fix_9 : decode cX0_fix 9 = .ok (.goto 9, 3) := dk_167 0 9 (dk_at dksX0_fix_0 9 rfl rfl)
theorem dX0_fix_12 : decode cX0_fix 12 = .ok (.astore_n 3, 1) := dk_78 (dk_at dksX0_fix_0 12 rfl rfl)
theorem dX0_fix_13 : decode cX0_fix 13 = .ok (.iconst 1, 1) := dk_4 (dk_at dksX0_fix_0 13 rfl rfl)
theorem dX0_fix_14 : decode cX0_fix 14 = .ok (.ireturn, 1) := dk_172 (dk_at dksX0_fix_0 14 rfl rfl)
theorem dX0_fix_15 : decode cX0_fix 15 = .ok (.astore_n 3, 1) := dk_78 (dk_at dksX0_fix_0 15 rfl rfl)
theorem dX0_fix_16 : decode cX0_fix 16 = .ok (.iconst 2, 1) := dk_5 (dk_at dksX0_fix_0 16 rfl rfl)
theorem dX0_fix_17 : decode cX0_fix 17 = .ok (.ireturn, 1) := dk_172 (dk_at dksX0_fix_0 17 rfl rfl)
theorem dX0_fix_18 : decode cX0_fix 18 = .ok (.iconst 0, 1) := dk_3 (dk_at dksX0_fix_0 18 rfl rfl)
theorem dX0_fix_19 : decode cX0_fix 19 = .ok (.ireturn, 1) := dk_172 (dk_at dksX0_fix_0 19 rfl rfl)
abbrev cX0_moveHost : ByteArray := method_9_code
def yX0_moveHost : MethodName := ⟨RX0, "moveHost", "(LBridgeAuction;II[J)I"⟩
def dkwX0_moveHost_0 : List UInt8 := [45, 3, 42, 27, 28, 182, 0, 36, 133, 80, 167, 0, 7, 58, 4, 4, 172, 3, 172]
abbrev dktX0_moveHost_0 : List UInt8 := dkwX0_moveHost_0 ++ []
theorem dksX0_moveHost_0 : cX0_moveHost.data.toList.drop 0 = dktX0_moveHost_0 := by decide +kernel
theorem dX0_moveHost_0 : decode cX0_moveHost 0 = .ok (.aload_n 3, 1) := dk_45 (dk_at dksX0_moveHost_0 0 rfl rfl)
theorem dX0_moveHost_1 : decode cX0_moveHost 1 = .ok (.iconst 0, 1) := dk_3 (dk_at dksX0_moveHost_0 1 rfl rfl)
theorem dX0_moveHost_2 : decode cX0_moveHost 2 = .ok (.aload_n 0, 1) := dk_42 (dk_at dksX0_moveHost_0 2 rfl rfl)
theorem dX0_moveHost_3 : decode cX0_moveHost 3 = .ok (.iload_n 1, 1) := dk_27 (dk_at dksX0_moveHost_0 3 rfl rfl)
theorem dX0_moveHost_4 : decode cX0_moveHost 4 = .ok (.iload_n 2, 1) := dk_28 (dk_at dksX0_moveHost_0 4 rfl rfl)
theorem dX0_moveHost_5 : decode cX0_moveHost 5 = .ok (.invokevirtual 36, 3) := dk_182 0 36 (dk_at dksX0_moveHost_0 5 rfl rfl)
theorem dX0_moveHost_8 : decode cX0_moveHost 8 = .ok (.i2l, 1) := dk_133 (dk_at dksX0_moveHost_0 8 rfl rfl)
theorem dX0_moveHost_9 : decode cX0_moveHost 9 = .ok (.lastore, 1) := dk_80 (dk_at dksX0_moveHost_0 9 rfl rfl)
theorem dX0_moveHost_10 : decode cX0_moveHost 10 = .ok (.goto 7, 3) := dk_167 0 7 (dk_at dksX0_moveHost_0 10 rfl rfl)
theorem dX0_moveHost_13 : decode cX0_moveHost 13 = .ok (.astore 4, 2) := dk_58 4 (dk_at dksX0_moveHost_0 13 rfl rfl)
theorem dX0_moveHost_15 : decode cX0_moveHost 15 = .ok (.iconst 1, 1) := dk_4 (dk_at dksX0_moveHost_0 15 rfl rfl)
theorem dX0_moveHost_16 : decode cX0_moveHost 16 = .ok (.ireturn, 1) := dk_172 (dk_at dksX0_moveHost_0 16 rfl rfl)
theorem dX0_moveHost_17 : decode cX0_moveHost 17 = .ok (.iconst 0, 1) := dk_3 (dk_at dksX0_moveHost_0 17 rfl rfl)
theorem dX0_moveHost_18 : decode cX0_moveHost 18 = .ok (.ireturn, 1) := dk_172 (dk_at dksX0_moveHost_0 18 rfl rfl)
abbrev cX0_bid : ByteArray := method_10_code
def yX0_bid : MethodName := ⟨RX0, "bid", "(LBridgeAuction;III[J)I"⟩
def dkwX0_bid_1 : List UInt8 := [172]
abbrev dktX0_bid_1 : List UInt8 := dkwX0_bid_1 ++ []
def dkwX0_bid_0 : List UInt8 := [25, 4, 3, 42, 27, 28, 29, 182, 0, 39, 133, 80, 167, 0, 11, 58, 5, 4, 172, 58, 5, 5, 172, 3]
abbrev dktX0_bid_0 : List UInt8 := dkwX0_bid_0 ++ dktX0_bid_1
theorem dksX0_bid_0 : cX0_bid.data.toList.drop 0 = dktX0_bid_0 := by decide +kernel
theorem dksX0_bid_1 : cX0_bid.data.toList.drop 24 = dktX0_bid_1 := dk_seg dksX0_bid_0 24 rfl rfl
theorem dX0_bid_0 : decode cX0_bid 0 = .ok (.aload 4, 2) := dk_25 4 (dk_at dksX0_bid_0 0 rfl rfl)
theorem dX0_bid_2 : decode cX0_bid 2 = .ok (.iconst 0, 1) := dk_3 (dk_at dksX0_bid_0 2 rfl rfl)
theorem dX0_bid_3 : decode cX0_bid 3 = .ok (.aload_n 0, 1) := dk_42 (dk_at dksX0_bid_0 3 rfl rfl)
theorem dX0_bid_4 : decode cX0_bid 4 = .ok (.iload_n 1, 1) := dk_27 (dk_at dksX0_bid_0 4 rfl rfl)
theorem dX0_bid_5 : decode cX0_bid 5 = .ok (.iload_n 2, 1) := dk_28 (dk_at dksX0_bid_0 5 rfl rfl)
theorem dX0_bid_6 : decode cX0_bid 6 = .ok (.iload_n 3, 1) := dk_29 (dk_at dksX0_bid_0 6 rfl rfl)
theorem dX0_bid_7 : decode cX0_bid 7 = .ok (.invokevirtual 39, 3) := dk_182 0 39 (dk_at dksX0_bid_0 7 rfl rfl)
theorem dX0_bid_10 : decode cX0_bid 10 = .ok (.i2l, 1) := dk_133 (dk_at dksX0_bid_0 10 rfl rfl)
theorem dX0_bid_11 : decode cX0_bid 11 = .ok (.lastore, 1) := dk_80 (dk_at dksX0_bid_0 11 rfl rfl)
theorem dX0_bid_12 : decode cX0_bid 12 = .ok (.goto 11, 3) := dk_167 0 11 (dk_at dksX0_bid_0 12 rfl rfl)
theorem dX0_bid_15 : decode cX0_bid 15 = .ok (.astore 5, 2) := dk_58 5 (dk_at dksX0_bid_0 15 rfl rfl)
theorem dX0_bid_17 : decode cX0_bid 17 = .ok (.iconst 1, 1) := dk_4 (dk_at dksX0_bid_0 17 rfl rfl)
theorem dX0_bid_18 : decode cX0_bid 18 = .ok (.ireturn, 1) := dk_172 (dk_at dksX0_bid_0 18 rfl rfl)
theorem dX0_bid_19 : decode cX0_bid 19 = .ok (.astore 5, 2) := dk_58 5 (dk_at dksX0_bid_0 19 rfl rfl)
theorem dX0_bid_21 : decode cX0_bid 21 = .ok (.iconst 2, 1) := dk_5 (dk_at dksX0_bid_0 21 rfl rfl)
theorem dX0_bid_22 : decode cX0_bid 22 = .ok (.ireturn, 1) := dk_172 (dk_at dksX0_bid_0 22 rfl rfl)
theorem dX0_bid_23 : decode cX0_bid 23 = .ok (.iconst 0, 1) := dk_3 (dk_at dksX0_bid_0 23 rfl rfl)
theorem dX0_bid_24 : decode cX0_bid 24 = .ok (.ireturn, 1) := dk_172 (dk_at dksX0_bid_1 0 rfl rfl)
abbrev cX0_grant : ByteArray := method_11_code
def yX0_grant : MethodName := ⟨RX0, "grant", "(LBridgeAuction;II[J)I"⟩
def dkwX0_grant_1 : List UInt8 := [172, 3, 172]
abbrev dktX0_grant_1 : List UInt8 := dkwX0_grant_1 ++ []
def dkwX0_grant_0 : List UInt8 := [45, 3, 42, 27, 28, 182, 0, 42, 133, 80, 167, 0, 15, 58, 4, 4, 172, 58, 4, 5, 172, 58, 4, 6]
abbrev dktX0_grant_0 : List UInt8 := dkwX0_grant_0 ++ dktX0_grant_1
theorem dksX0_grant_0 : cX0_grant.data.toList.drop 0 = dktX0_grant_0 := by decide +kernel
theorem dksX0_grant_1 : cX0_grant.data.toList.drop 24 = dktX0_grant_1 := dk_seg dksX0_grant_0 24 rfl rfl
theorem dX0_grant_0 : decode cX0_grant 0 = .ok (.aload_n 3, 1) := dk_45 (dk_at dksX0_grant_0 0 rfl rfl)
theorem dX0_grant_1 : decode cX0_grant 1 = .ok (.iconst 0, 1) := dk_3 (dk_at dksX0_grant_0 1 rfl rfl)
theorem dX0_grant_2 : decode cX0_grant 2 = .ok (.aload_n 0, 1) := dk_42 (dk_at dksX0_grant_0 2 rfl rfl)
theorem dX0_grant_3 : decode cX0_grant 3 = .ok (.iload_n 1, 1) := dk_27 (dk_at dksX0_grant_0 3 rfl rfl)
theorem dX0_grant_4 : decode cX0_grant 4 = .ok (.iload_n 2, 1) := dk_28 (dk_at dksX0_grant_0 4 rfl rfl)
theorem dX0_grant_5 : decode cX0_grant 5 = .ok (.invokevirtual 42, 3) := dk_182 0 42 (dk_at dksX0_grant_0 5 rfl rfl)
theorem dX0_grant_8 : decode cX0_grant 8 = .ok (.i2l, 1) := dk_133 (dk_at dksX0_grant_0 8 rfl rfl)
theorem dX0_grant_9 : decode cX0_grant 9 = .ok (.lastore, 1) := dk_80 (dk_at dksX0_grant_0 9 rfl rfl)
theorem dX0_grant_10 : decode cX0_grant 10 = .ok (.goto 15, 3) := dk_167 0 15 (dk_at dksX0_grant_0 10 rfl rfl)
theorem dX0_grant_13 : decode cX0_grant 13 = .ok (.astore 4, 2) := dk_58 4 (dk_at dksX0_grant_0 13 rfl rfl)
theorem dX0_grant_15 : decode cX0_grant 15 = .ok (.iconst 1, 1) := dk_4 (dk_at dksX0_grant_0 15 rfl rfl)
theorem dX0_grant_16 : decode cX0_grant 16 = .ok (.ireturn, 1) := dk_172 (dk_at dksX0_grant_0 16 rfl rfl)
theorem dX0_grant_17 : decode cX0_grant 17 = .ok (.astore 4, 2) := dk_58 4 (dk_at dksX0_grant_0 17 rfl rfl)
theorem dX0_grant_19 : decode cX0_grant 19 = .ok (.iconst 2, 1) := dk_5 (dk_at dksX0_grant_0 19 rfl rfl)
theorem dX0_grant_20 : decode cX0_grant 20 = .ok (.ireturn, 1) := dk_172 (dk_at dksX0_grant_0 20 rfl rfl)
theorem dX0_grant_21 : decode cX0_grant 21 = .ok (.astore 4, 2) := dk_58 4 (dk_at dksX0_grant_0 21 rfl rfl)
theorem dX0_grant_23 : decode cX0_grant 23 = .ok (.iconst 3, 1) := dk_6 (dk_at dksX0_grant_0 23 rfl rfl)
theorem dX0_grant_24 : decode cX0_grant 24 = .ok (.ireturn, 1) := dk_172 (dk_at dksX0_grant_1 0 rfl rfl)
theorem dX0_grant_25 : decode cX0_grant 25 = .ok (.iconst 0, 1) := dk_3 (dk_at dksX0_grant_1 1 rfl rfl)
theorem dX0_grant_26 : decode cX0_grant 26 = .ok (.ireturn, 1) := dk_172 (dk_at dksX0_grant_1 2 rfl rfl)
abbrev cX0_tick : ByteArray := method_12_code
def yX0_tick : MethodName := ⟨RX0, "tick", "(LBridgeAuction;I[J)I"⟩
def dkwX0_tick_0 : List UInt8 := [44, 3, 42, 27, 182, 0, 45, 133, 80, 167, 0, 6, 78, 4, 172, 3, 172]
abbrev dktX0_tick_0 : List UInt8 := dkwX0_tick_0 ++ []
theorem dksX0_tick_0 : cX0_tick.data.toList.drop 0 = dktX0_tick_0 := by decide +kernel
theorem dX0_tick_0 : decode cX0_tick 0 = .ok (.aload_n 2, 1) := dk_44 (dk_at dksX0_tick_0 0 rfl rfl)
theorem dX0_tick_1 : decode cX0_tick 1 = .ok (.iconst 0, 1) := dk_3 (dk_at dksX0_tick_0 1 rfl rfl)
theorem dX0_tick_2 : decode cX0_tick 2 = .ok (.aload_n 0, 1) := dk_42 (dk_at dksX0_tick_0 2 rfl rfl)
theorem dX0_tick_3 : decode cX0_tick 3 = .ok (.iload_n 1, 1) := dk_27 (dk_at dksX0_tick_0 3 rfl rfl)
theorem dX0_tick_4 : decode cX0_tick 4 = .ok (.invokevirtual 45, 3) := dk_182 0 45 (dk_at dksX0_tick_0 4 rfl rfl)
theorem dX0_tick_7 : decode cX0_tick 7 = .ok (.i2l, 1) := dk_133 (dk_at dksX0_tick_0 7 rfl rfl)
theorem dX0_tick_8 : decode cX0_tick 8 = .ok (.lastore, 1) := dk_80 (dk_at dksX0_tick_0 8 rfl rfl)
theorem dX0_tick_9 : decode cX0_tick 9 = .ok (.goto 6, 3) := dk_167 0 6 (dk_at dksX0_tick_0 9 rfl rfl)
theorem dX0_tick_12 : decode cX0_tick 12 = .ok (.astore_n 3, 1) := dk_78 (dk_at dksX0_tick_0 12 rfl rfl)
theorem dX0_tick_13 : decode cX0_tick 13 = .ok (.iconst 1, 1) := dk_4 (dk_at dksX0_tick_0 13 rfl rfl)
theorem dX0_tick_14 : decode cX0_tick 14 = .ok (.ireturn, 1) := dk_172 (dk_at dksX0_tick_0 14 rfl rfl)
theorem dX0_tick_15 : decode cX0_tick 15 = .ok (.iconst 0, 1) := dk_3 (dk_at dksX0_tick_0 15 rfl rfl)
theorem dX0_tick_16 : decode cX0_tick 16 = .ok (.ireturn, 1) := dk_172 (dk_at dksX0_tick_0 16 rfl rfl)
abbrev cX0_send : ByteArray := method_13_code
def yX0_send : MethodName := ⟨RX0, "send", "(LBridgeAuction;II[J)I"⟩
def dkwX0_send_0 : List UInt8 := [45, 3, 42, 27, 28, 182, 0, 48, 133, 80, 167, 0, 11, 58, 4, 4, 172, 58, 4, 5, 172, 3, 172]
abbrev dktX0_send_0 : List UInt8 := dkwX0_send_0 ++ []
theorem dksX0_send_0 : cX0_send.data.toList.drop 0 = dktX0_send_0 := by decide +kernel
theorem dX0_send_0 : decode cX0_send 0 = .ok (.aload_n 3, 1) := dk_45 (dk_at dksX0_send_0 0 rfl rfl)
theorem dX0_send_1 : decode cX0_send 1 = .ok (.iconst 0, 1) := dk_3 (dk_at dksX0_send_0 1 rfl rfl)
theorem dX0_send_2 : decode cX0_send 2 = .ok (.aload_n 0, 1) := dk_42 (dk_at dksX0_send_0 2 rfl rfl)
theorem dX0_send_3 : decode cX0_send 3 = .ok (.iload_n 1, 1) := dk_27 (dk_at dksX0_send_0 3 rfl rfl)
theorem dX0_send_4 : decode cX0_send 4 = .ok (.iload_n 2, 1) := dk_28 (dk_at dksX0_send_0 4 rfl rfl)
theorem dX0_send_5 : decode cX0_send 5 = .ok (.invokevirtual 48, 3) := dk_182 0 48 (dk_at dksX0_send_0 5 rfl rfl)
theorem dX0_send_8 : decode cX0_send 8 = .ok (.i2l, 1) := dk_133 (dk_at dksX0_send_0 8 rfl rfl)
theorem dX0_send_9 : decode cX0_send 9 = .ok (.lastore, 1) := dk_80 (dk_at dksX0_send_0 9 rfl rfl)
theorem dX0_send_10 : decode cX0_send 10 = .ok (.goto 11, 3) := dk_167 0 11 (dk_at dksX0_send_0 10 rfl rfl)
theorem dX0_send_13 : decode cX0_send 13 = .ok (.astore 4, 2) := dk_58 4 (dk_at dksX0_send_0 13 rfl rfl)
theorem dX0_send_15 : decode cX0_send 15 = .ok (.iconst 1, 1) := dk_4 (dk_at dksX0_send_0 15 rfl rfl)
theorem dX0_send_16 : decode cX0_send 16 = .ok (.ireturn, 1) := dk_172 (dk_at dksX0_send_0 16 rfl rfl)
theorem dX0_send_17 : decode cX0_send 17 = .ok (.astore 4, 2) := dk_58 4 (dk_at dksX0_send_0 17 rfl rfl)
theorem dX0_send_19 : decode cX0_send 19 = .ok (.iconst 2, 1) := dk_5 (dk_at dksX0_send_0 19 rfl rfl)
theorem dX0_send_20 : decode cX0_send 20 = .ok (.ireturn, 1) := dk_172 (dk_at dksX0_send_0 20 rfl rfl)
theorem dX0_send_21 : decode cX0_send 21 = .ok (.iconst 0, 1) := dk_3 (dk_at dksX0_send_0 21 rfl rfl)
theorem dX0_send_22 : decode cX0_send 22 = .ok (.ireturn, 1) := dk_172 (dk_at dksX0_send_0 22 rfl rfl)
abbrev cX0_bridge : ByteArray := method_14_code
def yX0_bridge : MethodName := ⟨RX0, "bridge", "(LBridgeAuction;II[J)I"⟩
def dkwX0_bridge_0 : List UInt8 := [45, 3, 42, 27, 28, 182, 0, 51, 133, 80, 167, 0, 11, 58, 4, 4, 172, 58, 4, 5, 172, 3, 172]
abbrev dktX0_bridge_0 : List UInt8 := dkwX0_bridge_0 ++ []
theorem dksX0_bridge_0 : cX0_bridge.data.toList.drop 0 = dktX0_bridge_0 := by decide +kernel
theorem dX0_bridge_0 : decode cX0_bridge 0 = .ok (.aload_n 3, 1) := dk_45 (dk_at dksX0_bridge_0 0 rfl rfl)
theorem dX0_bridge_1 : decode cX0_bridge 1 = .ok (.iconst 0, 1) := dk_3 (dk_at dksX0_bridge_0 1 rfl rfl)
theorem dX0_bridge_2 : decode cX0_bridge 2 = .ok (.aload_n 0, 1) := dk_42 (dk_at dksX0_bridge_0 2 rfl rfl)
theorem dX0_bridge_3 : decode cX0_bridge 3 = .ok (.iload_n 1, 1) := dk_27 (dk_at dksX0_bridge_0 3 rfl rfl)
theorem dX0_bridge_4 : decode cX0_bridge 4 = .ok (.iload_n 2, 1) := dk_28 (dk_at dksX0_bridge_0 4 rfl rfl)
theorem dX0_bridge_5 : decode cX0_bridge 5 = .ok (.invokevirtual 51, 3) := dk_182 0 51 (dk_at dksX0_bridge_0 5 rfl rfl)
theorem dX0_bridge_8 : decode cX0_bridge 8 = .ok (.i2l, 1) := dk_133 (dk_at dksX0_bridge_0 8 rfl rfl)
theorem dX0_bridge_9 : decode cX0_bridge 9 = .ok (.lastore, 1) := dk_80 (dk_at dksX0_bridge_0 9 rfl rfl)
theorem dX0_bridge_10 : decode cX0_bridge 10 = .ok (.goto 11, 3) := dk_167 0 11 (dk_at dksX0_bridge_0 10 rfl rfl)
theorem dX0_bridge_13 : decode cX0_bridge 13 = .ok (.astore 4, 2) := dk_58 4 (dk_at dksX0_bridge_0 13 rfl rfl)
theorem dX0_bridge_15 : decode cX0_bridge 15 = .ok (.iconst 1, 1) := dk_4 (dk_at dksX0_bridge_0 15 rfl rfl)
theorem dX0_bridge_16 : decode cX0_bridge 16 = .ok (.ireturn, 1) := dk_172 (dk_at dksX0_bridge_0 16 rfl rfl)
theorem dX0_bridge_17 : decode cX0_bridge 17 = .ok (.astore 4, 2) := dk_58 4 (dk_at dksX0_bridge_0 17 rfl rfl)
theorem dX0_bridge_19 : decode cX0_bridge 19 = .ok (.iconst 2, 1) := dk_5 (dk_at dksX0_bridge_0 19 rfl rfl)
theorem dX0_bridge_20 : decode cX0_bridge 20 = .ok (.ireturn, 1) := dk_172 (dk_at dksX0_bridge_0 20 rfl rfl)
theorem dX0_bridge_21 : decode cX0_bridge 21 = .ok (.iconst 0, 1) := dk_3 (dk_at dksX0_bridge_0 21 rfl rfl)
theorem dX0_bridge_22 : decode cX0_bridge 22 = .ok (.ireturn, 1) := dk_172 (dk_at dksX0_bridge_0 22 rfl rfl)
abbrev cX0_link : ByteArray := method_15_code
def yX0_link : MethodName := ⟨RX0, "link", "(LBridgeAuction;II[J)I"⟩
def dkwX0_link_0 : List UInt8 := [45, 3, 42, 27, 28, 182, 0, 54, 133, 80, 167, 0, 11, 58, 4, 4, 172, 58, 4, 5, 172, 3, 172]
abbrev dktX0_link_0 : List UInt8 := dkwX0_link_0 ++ []
theorem dksX0_link_0 : cX0_link.data.toList.drop 0 = dktX0_link_0 := by decide +kernel
theorem dX0_link_0 : decode cX0_link 0 = .ok (.aload_n 3, 1) := dk_45 (dk_at dksX0_link_0 0 rfl rfl)
theorem dX0_link_1 : decode cX0_link 1 = .ok (.iconst 0, 1) := dk_3 (dk_at dksX0_link_0 1 rfl rfl)
theorem dX0_link_2 : decode cX0_link 2 = .ok (.aload_n 0, 1) := dk_42 (dk_at dksX0_link_0 2 rfl rfl)
theorem dX0_link_3 : decode cX0_link 3 = .ok (.iload_n 1, 1) := dk_27 (dk_at dksX0_link_0 3 rfl rfl)
theorem dX0_link_4 : decode cX0_link 4 = .ok (.iload_n 2, 1) := dk_28 (dk_at dksX0_link_0 4 rfl rfl)
theorem dX0_link_5 : decode cX0_link 5 = .ok (.invokevirtual 54, 3) := dk_182 0 54 (dk_at dksX0_link_0 5 rfl rfl)
theorem dX0_link_8 : decode cX0_link 8 = .ok (.i2l, 1) := dk_133 (dk_at dksX0_link_0 8 rfl rfl)
theorem dX0_link_9 : decode cX0_link 9 = .ok (.lastore, 1) := dk_80 (dk_at dksX0_link_0 9 rfl rfl)
theorem dX0_link_10 : decode cX0_link 10 = .ok (.goto 11, 3) := dk_167 0 11 (dk_at dksX0_link_0 10 rfl rfl)
theorem dX0_link_13 : decode cX0_link 13 = .ok (.astore 4, 2) := dk_58 4 (dk_at dksX0_link_0 13 rfl rfl)
theorem dX0_link_15 : decode cX0_link 15 = .ok (.iconst 1, 1) := dk_4 (dk_at dksX0_link_0 15 rfl rfl)
theorem dX0_link_16 : decode cX0_link 16 = .ok (.ireturn, 1) := dk_172 (dk_at dksX0_link_0 16 rfl rfl)
theorem dX0_link_17 : decode cX0_link 17 = .ok (.astore 4, 2) := dk_58 4 (dk_at dksX0_link_0 17 rfl rfl)
theorem dX0_link_19 : decode cX0_link 19 = .ok (.iconst 2, 1) := dk_5 (dk_at dksX0_link_0 19 rfl rfl)
theorem dX0_link_20 : decode cX0_link 20 = .ok (.ireturn, 1) := dk_172 (dk_at dksX0_link_0 20 rfl rfl)
theorem dX0_link_21 : decode cX0_link 21 = .ok (.iconst 0, 1) := dk_3 (dk_at dksX0_link_0 21 rfl rfl)
theorem dX0_link_22 : decode cX0_link 22 = .ok (.ireturn, 1) := dk_172 (dk_at dksX0_link_0 22 rfl rfl)
abbrev cX0_port : ByteArray := method_16_code
def yX0_port : MethodName := ⟨RX0, "port", "(LBridgeAuction;IZI[J)I"⟩
def dkwX0_port_1 : List UInt8 := [172]
abbrev dktX0_port_1 : List UInt8 := dkwX0_port_1 ++ []
def dkwX0_port_0 : List UInt8 := [25, 4, 3, 42, 27, 28, 29, 182, 0, 57, 133, 80, 167, 0, 11, 58, 5, 4, 172, 58, 5, 5, 172, 3]
abbrev dktX0_port_0 : List UInt8 := dkwX0_port_0 ++ dktX0_port_1
theorem dksX0_port_0 : cX0_port.data.toList.drop 0 = dktX0_port_0 := by decide +kernel
theorem dksX0_port_1 : cX0_port.data.toList.drop 24 = dktX0_port_1 := dk_seg dksX0_port_0 24 rfl rfl
theorem dX0_port_0 : decode cX0_port 0 = .ok (.aload 4, 2) := dk_25 4 (dk_at dksX0_port_0 0 rfl rfl)
theorem dX0_port_2 : decode cX0_port 2 = .ok (.iconst 0, 1) := dk_3 (dk_at dksX0_port_0 2 rfl rfl)
theorem dX0_port_3 : decode cX0_port 3 = .ok (.aload_n 0, 1) := dk_42 (dk_at dksX0_port_0 3 rfl rfl)
theorem dX0_port_4 : decode cX0_port 4 = .ok (.iload_n 1, 1) := dk_27 (dk_at dksX0_port_0 4 rfl rfl)
theorem dX0_port_5 : decode cX0_port 5 = .ok (.iload_n 2, 1) := dk_28 (dk_at dksX0_port_0 5 rfl rfl)
theorem dX0_port_6 : decode cX0_port 6 = .ok (.iload_n 3, 1) := dk_29 (dk_at dksX0_port_0 6 rfl rfl)
theorem dX0_port_7 : decode cX0_port 7 = .ok (.invokevirtual 57, 3) := dk_182 0 57 (dk_at dksX0_port_0 7 rfl rfl)
theorem dX0_port_10 : decode cX0_port 10 = .ok (.i2l, 1) := dk_133 (dk_at dksX0_port_0 10 rfl rfl)
theorem dX0_port_11 : decode cX0_port 11 = .ok (.lastore, 1) := dk_80 (dk_at dksX0_port_0 11 rfl rfl)
theorem dX0_port_12 : decode cX0_port 12 = .ok (.goto 11, 3) := dk_167 0 11 (dk_at dksX0_port_0 12 rfl rfl)
theorem dX0_port_15 : decode cX0_port 15 = .ok (.astore 5, 2) := dk_58 5 (dk_at dksX0_port_0 15 rfl rfl)
theorem dX0_port_17 : decode cX0_port 17 = .ok (.iconst 1, 1) := dk_4 (dk_at dksX0_port_0 17 rfl rfl)
theorem dX0_port_18 : decode cX0_port 18 = .ok (.ireturn, 1) := dk_172 (dk_at dksX0_port_0 18 rfl rfl)
theorem dX0_port_19 : decode cX0_port 19 = .ok (.astore 5, 2) := dk_58 5 (dk_at dksX0_port_0 19 rfl rfl)
theorem dX0_port_21 : decode cX0_port 21 = .ok (.iconst 2, 1) := dk_5 (dk_at dksX0_port_0 21 rfl rfl)
theorem dX0_port_22 : decode cX0_port 22 = .ok (.ireturn, 1) := dk_172 (dk_at dksX0_port_0 22 rfl rfl)
theorem dX0_port_23 : decode cX0_port 23 = .ok (.iconst 0, 1) := dk_3 (dk_at dksX0_port_0 23 rfl rfl)
theorem dX0_port_24 : decode cX0_port 24 = .ok (.ireturn, 1) := dk_172 (dk_at dksX0_port_1 0 rfl rfl)
abbrev cX0_entry : ByteArray := method_17_code
def yX0_entry : MethodName := ⟨RX0, "entry", "(LBridgeAuction;II[J)I"⟩
def dkwX0_entry_0 : List UInt8 := [45, 3, 42, 27, 28, 182, 0, 61, 133, 80, 167, 0, 7, 58, 4, 4, 172, 3, 172]
abbrev dktX0_entry_0 : List UInt8 := dkwX0_entry_0 ++ []
theorem dksX0_entry_0 : cX0_entry.data.toList.drop 0 = dktX0_entry_0 := by decide +kernel
theorem dX0_entry_0 : decode cX0_entry 0 = .ok (.aload_n 3, 1) := dk_45 (dk_at dksX0_entry_0 0 rfl rfl)
theorem dX0_entry_1 : decode cX0_entry 1 = .ok (.iconst 0, 1) := dk_3 (dk_at dksX0_entry_0 1 rfl rfl)
theorem dX0_entry_2 : decode cX0_entry 2 = .ok (.aload_n 0, 1) := dk_42 (dk_at dksX0_entry_0 2 rfl rfl)
theorem dX0_entry_3 : decode cX0_entry 3 = .ok (.iload_n 1, 1) := dk_27 (dk_at dksX0_entry_0 3 rfl rfl)
theorem dX0_entry_4 : decode cX0_entry 4 = .ok (.iload_n 2, 1) := dk_28 (dk_at dksX0_entry_0 4 rfl rfl)
theorem dX0_entry_5 : decode cX0_entry 5 = .ok (.invokevirtual 61, 3) := dk_182 0 61 (dk_at dksX0_entry_0 5 rfl rfl)
theorem dX0_entry_8 : decode cX0_entry 8 = .ok (.i2l, 1) := dk_133 (dk_at dksX0_entry_0 8 rfl rfl)
theorem dX0_entry_9 : decode cX0_entry 9 = .ok (.lastore, 1) := dk_80 (dk_at dksX0_entry_0 9 rfl rfl)
theorem dX0_entry_10 : decode cX0_entry 10 = .ok (.goto 7, 3) := dk_167 0 7 (dk_at dksX0_entry_0 10 rfl rfl)
theorem dX0_entry_13 : decode cX0_entry 13 = .ok (.astore 4, 2) := dk_58 4 (dk_at dksX0_entry_0 13 rfl rfl)
theorem dX0_entry_15 : decode cX0_entry 15 = .ok (.iconst 1, 1) := dk_4 (dk_at dksX0_entry_0 15 rfl rfl)
theorem dX0_entry_16 : decode cX0_entry 16 = .ok (.ireturn, 1) := dk_172 (dk_at dksX0_entry_0 16 rfl rfl)
theorem dX0_entry_17 : decode cX0_entry 17 = .ok (.iconst 0, 1) := dk_3 (dk_at dksX0_entry_0 17 rfl rfl)
theorem dX0_entry_18 : decode cX0_entry 18 = .ok (.ireturn, 1) := dk_172 (dk_at dksX0_entry_0 18 rfl rfl)
abbrev cX0_tenant : ByteArray := method_18_code
def yX0_tenant : MethodName := ⟨RX0, "tenant", "(LBridgeAuction;II[J)I"⟩
def dkwX0_tenant_0 : List UInt8 := [45, 3, 42, 27, 28, 182, 0, 64, 133, 80, 167, 0, 11, 58, 4, 4, 172, 58, 4, 5, 172, 3, 172]
abbrev dktX0_tenant_0 : List UInt8 := dkwX0_tenant_0 ++ []
theorem dksX0_tenant_0 : cX0_tenant.data.toList.drop 0 = dktX0_tenant_0 := by decide +kernel
theorem dX0_tenant_0 : decode cX0_tenant 0 = .ok (.aload_n 3, 1) := dk_45 (dk_at dksX0_tenant_0 0 rfl rfl)
theorem dX0_tenant_1 : decode cX0_tenant 1 = .ok (.iconst 0, 1) := dk_3 (dk_at dksX0_tenant_0 1 rfl rfl)
theorem dX0_tenant_2 : decode cX0_tenant 2 = .ok (.aload_n 0, 1) := dk_42 (dk_at dksX0_tenant_0 2 rfl rfl)
theorem dX0_tenant_3 : decode cX0_tenant 3 = .ok (.iload_n 1, 1) := dk_27 (dk_at dksX0_tenant_0 3 rfl rfl)
theorem dX0_tenant_4 : decode cX0_tenant 4 = .ok (.iload_n 2, 1) := dk_28 (dk_at dksX0_tenant_0 4 rfl rfl)
theorem dX0_tenant_5 : decode cX0_tenant 5 = .ok (.invokevirtual 64, 3) := dk_182 0 64 (dk_at dksX0_tenant_0 5 rfl rfl)
theorem dX0_tenant_8 : decode cX0_tenant 8 = .ok (.i2l, 1) := dk_133 (dk_at dksX0_tenant_0 8 rfl rfl)
theorem dX0_tenant_9 : decode cX0_tenant 9 = .ok (.lastore, 1) := dk_80 (dk_at dksX0_tenant_0 9 rfl rfl)
theorem dX0_tenant_10 : decode cX0_tenant 10 = .ok (.goto 11, 3) := dk_167 0 11 (dk_at dksX0_tenant_0 10 rfl rfl)
theorem dX0_tenant_13 : decode cX0_tenant 13 = .ok (.astore 4, 2) := dk_58 4 (dk_at dksX0_tenant_0 13 rfl rfl)
theorem dX0_tenant_15 : decode cX0_tenant 15 = .ok (.iconst 1, 1) := dk_4 (dk_at dksX0_tenant_0 15 rfl rfl)
theorem dX0_tenant_16 : decode cX0_tenant 16 = .ok (.ireturn, 1) := dk_172 (dk_at dksX0_tenant_0 16 rfl rfl)
theorem dX0_tenant_17 : decode cX0_tenant 17 = .ok (.astore 4, 2) := dk_58 4 (dk_at dksX0_tenant_0 17 rfl rfl)
theorem dX0_tenant_19 : decode cX0_tenant 19 = .ok (.iconst 2, 1) := dk_5 (dk_at dksX0_tenant_0 19 rfl rfl)
theorem dX0_tenant_20 : decode cX0_tenant 20 = .ok (.ireturn, 1) := dk_172 (dk_at dksX0_tenant_0 20 rfl rfl)
theorem dX0_tenant_21 : decode cX0_tenant 21 = .ok (.iconst 0, 1) := dk_3 (dk_at dksX0_tenant_0 21 rfl rfl)
theorem dX0_tenant_22 : decode cX0_tenant 22 = .ok (.ireturn, 1) := dk_172 (dk_at dksX0_tenant_0 22 rfl rfl)
abbrev cX0_bidOf : ByteArray := method_19_code
def yX0_bidOf : MethodName := ⟨RX0, "bidOf", "(LBridgeAuction;II[J)I"⟩
def dkwX0_bidOf_0 : List UInt8 := [45, 3, 42, 27, 28, 182, 0, 67, 133, 80, 167, 0, 7, 58, 4, 4, 172, 3, 172]
abbrev dktX0_bidOf_0 : List UInt8 := dkwX0_bidOf_0 ++ []
theorem dksX0_bidOf_0 : cX0_bidOf.data.toList.drop 0 = dktX0_bidOf_0 := by decide +kernel
theorem dX0_bidOf_0 : decode cX0_bidOf 0 = .ok (.aload_n 3, 1) := dk_45 (dk_at dksX0_bidOf_0 0 rfl rfl)
theorem dX0_bidOf_1 : decode cX0_bidOf 1 = .ok (.iconst 0, 1) := dk_3 (dk_at dksX0_bidOf_0 1 rfl rfl)
theorem dX0_bidOf_2 : decode cX0_bidOf 2 = .ok (.aload_n 0, 1) := dk_42 (dk_at dksX0_bidOf_0 2 rfl rfl)
theorem dX0_bidOf_3 : decode cX0_bidOf 3 = .ok (.iload_n 1, 1) := dk_27 (dk_at dksX0_bidOf_0 3 rfl rfl)
theorem dX0_bidOf_4 : decode cX0_bidOf 4 = .ok (.iload_n 2, 1) := dk_28 (dk_at dksX0_bidOf_0 4 rfl rfl)
theorem dX0_bidOf_5 : decode cX0_bidOf 5 = .ok (.invokevirtual 67, 3) := dk_182 0 67 (dk_at dksX0_bidOf_0 5 rfl rfl)
theorem dX0_bidOf_8 : decode cX0_bidOf 8 = .ok (.i2l, 1) := dk_133 (dk_at dksX0_bidOf_0 8 rfl rfl)
theorem dX0_bidOf_9 : decode cX0_bidOf 9 = .ok (.lastore, 1) := dk_80 (dk_at dksX0_bidOf_0 9 rfl rfl)
theorem dX0_bidOf_10 : decode cX0_bidOf 10 = .ok (.goto 7, 3) := dk_167 0 7 (dk_at dksX0_bidOf_0 10 rfl rfl)
theorem dX0_bidOf_13 : decode cX0_bidOf 13 = .ok (.astore 4, 2) := dk_58 4 (dk_at dksX0_bidOf_0 13 rfl rfl)
theorem dX0_bidOf_15 : decode cX0_bidOf 15 = .ok (.iconst 1, 1) := dk_4 (dk_at dksX0_bidOf_0 15 rfl rfl)
theorem dX0_bidOf_16 : decode cX0_bidOf 16 = .ok (.ireturn, 1) := dk_172 (dk_at dksX0_bidOf_0 16 rfl rfl)
theorem dX0_bidOf_17 : decode cX0_bidOf 17 = .ok (.iconst 0, 1) := dk_3 (dk_at dksX0_bidOf_0 17 rfl rfl)
theorem dX0_bidOf_18 : decode cX0_bidOf 18 = .ok (.ireturn, 1) := dk_172 (dk_at dksX0_bidOf_0 18 rfl rfl)
abbrev cX0_count : ByteArray := method_20_code
def yX0_count : MethodName := ⟨RX0, "count", "(LBridgeAuction;I[J)I"⟩
def dkwX0_count_0 : List UInt8 := [44, 3, 42, 27, 182, 0, 70, 133, 80, 167, 0, 6, 78, 4, 172, 3, 172]
abbrev dktX0_count_0 : List UInt8 := dkwX0_count_0 ++ []
theorem dksX0_count_0 : cX0_count.data.toList.drop 0 = dktX0_count_0 := by decide +kernel
theorem dX0_count_0 : decode cX0_count 0 = .ok (.aload_n 2, 1) := dk_44 (dk_at dksX0_count_0 0 rfl rfl)
theorem dX0_count_1 : decode cX0_count 1 = .ok (.iconst 0, 1) := dk_3 (dk_at dksX0_count_0 1 rfl rfl)
theorem dX0_count_2 : decode cX0_count 2 = .ok (.aload_n 0, 1) := dk_42 (dk_at dksX0_count_0 2 rfl rfl)
theorem dX0_count_3 : decode cX0_count 3 = .ok (.iload_n 1, 1) := dk_27 (dk_at dksX0_count_0 3 rfl rfl)
theorem dX0_count_4 : decode cX0_count 4 = .ok (.invokevirtual 70, 3) := dk_182 0 70 (dk_at dksX0_count_0 4 rfl rfl)
theorem dX0_count_7 : decode cX0_count 7 = .ok (.i2l, 1) := dk_133 (dk_at dksX0_count_0 7 rfl rfl)
theorem dX0_count_8 : decode cX0_count 8 = .ok (.lastore, 1) := dk_80 (dk_at dksX0_count_0 8 rfl rfl)
theorem dX0_count_9 : decode cX0_count 9 = .ok (.goto 6, 3) := dk_167 0 6 (dk_at dksX0_count_0 9 rfl rfl)
theorem dX0_count_12 : decode cX0_count 12 = .ok (.astore_n 3, 1) := dk_78 (dk_at dksX0_count_0 12 rfl rfl)
theorem dX0_count_13 : decode cX0_count 13 = .ok (.iconst 1, 1) := dk_4 (dk_at dksX0_count_0 13 rfl rfl)
theorem dX0_count_14 : decode cX0_count 14 = .ok (.ireturn, 1) := dk_172 (dk_at dksX0_count_0 14 rfl rfl)
theorem dX0_count_15 : decode cX0_count 15 = .ok (.iconst 0, 1) := dk_3 (dk_at dksX0_count_0 15 rfl rfl)
theorem dX0_count_16 : decode cX0_count 16 = .ok (.ireturn, 1) := dk_172 (dk_at dksX0_count_0 16 rfl rfl)
abbrev cX0_type : ByteArray := method_21_code
def yX0_type : MethodName := ⟨RX0, "type", "(LBridgeAuction;I[J)I"⟩
def dkwX0_type_0 : List UInt8 := [44, 3, 42, 27, 182, 0, 73, 133, 80, 167, 0, 9, 78, 4, 172, 78, 5, 172, 3, 172]
abbrev dktX0_type_0 : List UInt8 := dkwX0_type_0 ++ []
theorem dksX0_type_0 : cX0_type.data.toList.drop 0 = dktX0_type_0 := by decide +kernel
theorem dX0_type_0 : decode cX0_type 0 = .ok (.aload_n 2, 1) := dk_44 (dk_at dksX0_type_0 0 rfl rfl)
theorem dX0_type_1 : decode cX0_type 1 = .ok (.iconst 0, 1) := dk_3 (dk_at dksX0_type_0 1 rfl rfl)
theorem dX0_type_2 : decode cX0_type 2 = .ok (.aload_n 0, 1) := dk_42 (dk_at dksX0_type_0 2 rfl rfl)
theorem dX0_type_3 : decode cX0_type 3 = .ok (.iload_n 1, 1) := dk_27 (dk_at dksX0_type_0 3 rfl rfl)
theorem dX0_type_4 : decode cX0_type 4 = .ok (.invokevirtual 73, 3) := dk_182 0 73 (dk_at dksX0_type_0 4 rfl rfl)
theorem dX0_type_7 : decode cX0_type 7 = .ok (.i2l, 1) := dk_133 (dk_at dksX0_type_0 7 rfl rfl)
theorem dX0_type_8 : decode cX0_type 8 = .ok (.lastore, 1) := dk_80 (dk_at dksX0_type_0 8 rfl rfl)
theorem dX0_type_9 : decode cX0_type 9 = .ok (.goto 9, 3) := dk_167 0 9 (dk_at dksX0_type_0 9 rfl rfl)
theorem dX0_type_12 : decode cX0_type 12 = .ok (.astore_n 3, 1) := dk_78 (dk_at dksX0_type_0 12 rfl rfl)
theorem dX0_type_13 : decode cX0_type 13 = .ok (.iconst 1, 1) := dk_4 (dk_at dksX0_type_0 13 rfl rfl)
theorem dX0_type_14 : decode cX0_type 14 = .ok (.ireturn, 1) := dk_172 (dk_at dksX0_type_0 14 rfl rfl)
theorem dX0_type_15 : decode cX0_type 15 = .ok (.astore_n 3, 1) := dk_78 (dk_at dksX0_type_0 15 rfl rfl)
theorem dX0_type_16 : decode cX0_type 16 = .ok (.iconst 2, 1) := dk_5 (dk_at dksX0_type_0 16 rfl rfl)
theorem dX0_type_17 : decode cX0_type 17 = .ok (.ireturn, 1) := dk_172 (dk_at dksX0_type_0 17 rfl rfl)
theorem dX0_type_18 : decode cX0_type 18 = .ok (.iconst 0, 1) := dk_3 (dk_at dksX0_type_0 18 rfl rfl)
theorem dX0_type_19 : decode cX0_type 19 = .ok (.ireturn, 1) := dk_172 (dk_at dksX0_type_0 19 rfl rfl)
abbrev cX0_undo : ByteArray := method_22_code
def yX0_undo : MethodName := ⟨RX0, "undo", "(LBridgeAuction;[J)I"⟩
def dkwX0_undo_0 : List UInt8 := [43, 3, 42, 182, 0, 76, 133, 80, 167, 0, 6, 77, 4, 172, 3, 172]
abbrev dktX0_undo_0 : List UInt8 := dkwX0_undo_0 ++ []
theorem dksX0_undo_0 : cX0_undo.data.toList.drop 0 = dktX0_undo_0 := by decide +kernel
theorem dX0_undo_0 : decode cX0_undo 0 = .ok (.aload_n 1, 1) := dk_43 (dk_at dksX0_undo_0 0 rfl rfl)
theorem dX0_undo_1 : decode cX0_undo 1 = .ok (.iconst 0, 1) := dk_3 (dk_at dksX0_undo_0 1 rfl rfl)
theorem dX0_undo_2 : decode cX0_undo 2 = .ok (.aload_n 0, 1) := dk_42 (dk_at dksX0_undo_0 2 rfl rfl)
theorem dX0_undo_3 : decode cX0_undo 3 = .ok (.invokevirtual 76, 3) := dk_182 0 76 (dk_at dksX0_undo_0 3 rfl rfl)
theorem dX0_undo_6 : decode cX0_undo 6 = .ok (.i2l, 1) := dk_133 (dk_at dksX0_undo_0 6 rfl rfl)
theorem dX0_undo_7 : decode cX0_undo 7 = .ok (.lastore, 1) := dk_80 (dk_at dksX0_undo_0 7 rfl rfl)
theorem dX0_undo_8 : decode cX0_undo 8 = .ok (.goto 6, 3) := dk_167 0 6 (dk_at dksX0_undo_0 8 rfl rfl)
theorem dX0_undo_11 : decode cX0_undo 11 = .ok (.astore_n 2, 1) := dk_77 (dk_at dksX0_undo_0 11 rfl rfl)
theorem dX0_undo_12 : decode cX0_undo 12 = .ok (.iconst 1, 1) := dk_4 (dk_at dksX0_undo_0 12 rfl rfl)
theorem dX0_undo_13 : decode cX0_undo 13 = .ok (.ireturn, 1) := dk_172 (dk_at dksX0_undo_0 13 rfl rfl)
theorem dX0_undo_14 : decode cX0_undo 14 = .ok (.iconst 0, 1) := dk_3 (dk_at dksX0_undo_0 14 rfl rfl)
theorem dX0_undo_15 : decode cX0_undo 15 = .ok (.ireturn, 1) := dk_172 (dk_at dksX0_undo_0 15 rfl rfl)
