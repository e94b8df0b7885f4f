set_option maxRecDepth 100000
abbrev cX4_own : ByteArray := prog_9_method_2_code
def yX4_own : MethodName := ⟨RX4, "own", "(I)LBridgeAuction$Vector;"⟩
def dkwX4_own_0 : List UInt8 := [187, 0, 10, 89, 26, 3, 26, 3, 2, 183, 0, 27, 176]
abbrev dktX4_own_0 : List UInt8 := dkwX4_own_0 ++ []
theorem dksX4_own_0 : cX4_own.data.toList.drop 0 = dktX4_own_0 := by decide +kernel
theorem dX4_own_0 : decode cX4_own 0 = .ok (.new 10, 3) := dk_187 0 10 (dk_at dksX4_own_0 0 rfl rfl)
theorem dX4_own_3 : decode cX4_own 3 = .ok (.dup, 1) := dk_89 (dk_at dksX4_own_0 3 rfl rfl)
theorem dX4_own_4 : decode cX4_own 4 = .ok (.iload_n 0, 1) := dk_26 (dk_at dksX4_own_0 4 rfl rfl)
theorem dX4_own_5 : decode cX4_own 5 = .ok (.iconst 0, 1) := dk_3 (dk_at dksX4_own_0 5 rfl rfl)
theorem dX4_own_6 : decode cX4_own 6 = .ok (.iload_n 0, 1) := dk_26 (dk_at dksX4_own_0 6 rfl rfl)
theorem dX4_own_7 : decode cX4_own 7 = .ok (.iconst 0, 1) := dk_3 (dk_at dksX4_own_0 7 rfl rfl)
theorem dX4_own_8 : decode cX4_own 8 = .ok (.iconst (-1), 1) := dk_2 (dk_at dksX4_own_0 8 rfl rfl)
theorem dX4_own_9 : decode cX4_own 9 = .ok (.invokespecial 27, 3) := dk_183 0 27 (dk_at dksX4_own_0 9 rfl rfl)
theorem dX4_own_12 : decode cX4_own 12 = .ok (.areturn, 1) := dk_176 (dk_at dksX4_own_0 12 rfl rfl)
abbrev cX4_init : ByteArray := prog_9_method_1_code
def yX4_init : MethodName := ⟨RX4, "<init>", "(IIIII)V"⟩
def dkwX4_init_1 : List UInt8 := [181, 0, 21, 42, 21, 5, 181, 0, 24, 177]
abbrev dktX4_init_1 : List UInt8 := dkwX4_init_1 ++ []
def dkwX4_init_0 : List UInt8 := [42, 183, 0, 3, 42, 27, 181, 0, 9, 42, 28, 181, 0, 15, 42, 29, 181, 0, 18, 42, 21, 4]
abbrev dktX4_init_0 : List UInt8 := dkwX4_init_0 ++ dktX4_init_1
theorem dksX4_init_0 : cX4_init.data.toList.drop 0 = dktX4_init_0 := by decide +kernel
theorem dksX4_init_1 : cX4_init.data.toList.drop 22 = dktX4_init_1 := dk_seg dksX4_init_0 22 rfl rfl
theorem dX4_init_0 : decode cX4_init 0 = .ok (.aload_n 0, 1) := dk_42 (dk_at dksX4_init_0 0 rfl rfl)
theorem dX4_init_1 : decode cX4_init 1 = .ok (.invokespecial 3, 3) := dk_183 0 3 (dk_at dksX4_init_0 1 rfl rfl)
theorem dX4_init_4 : decode cX4_init 4 = .ok (.aload_n 0, 1) := dk_42 (dk_at dksX4_init_0 4 rfl rfl)
theorem dX4_init_5 : decode cX4_init 5 = .ok (.iload_n 1, 1) := dk_27 (dk_at dksX4_init_0 5 rfl rfl)
theorem dX4_init_6 : decode cX4_init 6 = .ok (.putfield 9, 3) := dk_181 0 9 (dk_at dksX4_init_0 6 rfl rfl)
theorem dX4_init_9 : decode cX4_init 9 = .ok (.aload_n 0, 1) := dk_42 (dk_at dksX4_init_0 9 rfl rfl)
theorem dX4_init_10 : decode cX4_init 10 = .ok (.iload_n 2, 1) := dk_28 (dk_at dksX4_init_0 10 rfl rfl)
theorem dX4_init_11 : decode cX4_init 11 = .ok (.putfield 15, 3) := dk_181 0 15 (dk_at dksX4_init_0 11 rfl rfl)
theorem dX4_init_14 : decode cX4_init 14 = .ok (.aload_n 0, 1) := dk_42 (dk_at dksX4_init_0 14 rfl rfl)
theorem dX4_init_15 : decode cX4_init 15 = .ok (.iload_n 3, 1) := dk_29 (dk_at dksX4_init_0 15 rfl rfl)
theorem dX4_init_16 : decode cX4_init 16 = .ok (.putfield 18, 3) := dk_181 0 18 (dk_at dksX4_init_0 16 rfl rfl)
theorem dX4_init_19 : decode cX4_init 19 = .ok (.aload_n 0, 1) := dk_42 (dk_at dksX4_init_0 19 rfl rfl)
theorem dX4_init_20 : decode cX4_init 20 = .ok (.iload 4, 2) := dk_21 4 (dk_at dksX4_init_0 20 rfl rfl)
theorem dX4_init_22 : decode cX4_init 22 = .ok (.putfield 21, 3) := dk_181 0 21 (dk_at dksX4_init_1 0 rfl rfl)
theorem dX4_init_25 : decode cX4_init 25 = .ok (.aload_n 0, 1) := dk_42 (dk_at dksX4_init_1 3 rfl rfl)
theorem dX4_init_26 : decode cX4_init 26 = .ok (.iload 5, 2) := dk_21 5 (dk_at dksX4_init_1 4 rfl rfl)
theorem dX4_init_28 : decode cX4_init 28 = .ok (.putfield 24, 3) := dk_181 0 24 (dk_at dksX4_init_1 6 rfl rfl)
theorem dX4_init_31 : decode cX4_init 31 = .ok (.return_, 1) := dk_177 (dk_at dksX4_init_1 9 rfl rfl)
abbrev cX4_asTold : ByteArray := prog_9_method_3_code
def yX4_asTold : MethodName := ⟨RX4, "asTold", "(IIIII)LBridgeAuction$Vector;"⟩
def dkwX4_asTold_3 : List UInt8 := [183, 0, 27, 176]
abbrev dktX4_asTold_3 : List UInt8 := dkwX4_asTold_3 ++ []
def dkwX4_asTold_2 : List UInt8 := [54, 6, 21, 6, 153, 0, 7, 42, 167, 0, 17, 187, 0, 10, 89, 27, 28, 29, 21, 4, 21, 5]
abbrev dktX4_asTold_2 : List UInt8 := dkwX4_asTold_2 ++ dktX4_asTold_3
def dkwX4_asTold_1 : List UInt8 := [42, 180, 0, 21, 21, 4, 160, 0, 16, 42, 180, 0, 24, 21, 5, 160, 0, 7, 4, 167, 0, 4, 3]
abbrev dktX4_asTold_1 : List UInt8 := dkwX4_asTold_1 ++ dktX4_asTold_2
def dkwX4_asTold_0 : List UInt8 := [42, 180, 0, 9, 27, 160, 0, 41, 42, 180, 0, 15, 28, 160, 0, 33, 42, 180, 0, 18, 29, 160, 0, 25]
abbrev dktX4_asTold_0 : List UInt8 := dkwX4_asTold_0 ++ dktX4_asTold_1
theorem dksX4_asTold_0 : cX4_asTold.data.toList.drop 0 = dktX4_asTold_0 := by decide +kernel
theorem dksX4_asTold_1 : cX4_asTold.data.toList.drop 24 = dktX4_asTold_1 := dk_seg dksX4_asTold_0 24 rfl rfl
theorem dksX4_asTold_2 : cX4_asTold.data.toList.drop 47 = dktX4_asTold_2 := dk_seg dksX4_asTold_1 23 rfl rfl
theorem dksX4_asTold_3 : cX4_asTold.data.toList.drop 69 = dktX4_asTold_3 := dk_seg dksX4_asTold_2 22 rfl rfl
theorem dX4_asTold_0 : decode cX4_asTold 0 = .ok (.aload_n 0, 1) := dk_42 (dk_at dksX4_asTold_0 0 rfl rfl)
theorem dX4_asTold_1 : decode cX4_asTold 1 = .ok (.getfield 9, 3) := dk_180 0 9 (dk_at dksX4_asTold_0 1 rfl rfl)
theorem dX4_asTold_4 : decode cX4_asTold 4 = .ok (.iload_n 1, 1) := dk_27 (dk_at dksX4_asTold_0 4 rfl rfl)
theorem dX4_asTold_5 : decode cX4_asTold 5 = .ok (.if_icmp .ne 41, 3) := dk_160 0 41 (dk_at dksX4_asTold_0 5 rfl rfl)
theorem dX4_asTold_8 : decode cX4_asTold 8 = .ok (.aload_n 0, 1) := dk_42 (dk_at dksX4_asTold_0 8 rfl rfl)
theorem dX4_asTold_9 : decode cX4_asTold 9 = .ok (.getfield 15, 3) := dk_180 0 15 (dk_at dksX4_asTold_0 9 rfl rfl)
theorem dX4_asTold_12 : decode cX4_asTold 12 = .ok (.iload_n 2, 1) := dk_28 (dk_at dksX4_asTold_0 12 rfl rfl)
theorem dX4_asTold_13 : decode cX4_asTold 13 = .ok (.if_icmp .ne 33, 3) := dk_160 0 33 (dk_at dksX4_asTold_0 13 rfl rfl)
theorem dX4_asTold_16 : decode cX4_asTold 16 = .ok (.aload_n 0, 1) := dk_42 (dk_at dksX4_asTold_0 16 rfl rfl)
theorem dX4_asTold_17 : decode cX4_asTold 17 = .ok (.getfield 18, 3) := dk_180 0 18 (dk_at dksX4_asTold_0 17 rfl rfl)
theorem dX4_asTold_20 : decode cX4_asTold 20 = .ok (.iload_n 3, 1) := dk_29 (dk_at dksX4_asTold_0 20 rfl rfl)
theorem dX4_asTold_21 : decode cX4_asTold 21 = .ok (.if_icmp .ne 25, 3) := dk_160 0 25 (dk_at dksX4_asTold_0 21 rfl rfl)
theorem dX4_asTold_24 : decode cX4_asTold 24 = .ok (.aload_n 0, 1) := dk_42 (dk_at dksX4_asTold_1 0 rfl rfl)
theorem dX4_asTold_25 : decode cX4_asTold 25 = .ok (.getfield 21, 3) := dk_180 0 21 (dk_at dksX4_asTold_1 1 rfl rfl)
theorem dX4_asTold_28 : decode cX4_asTold 28 = .ok (.iload 4, 2) := dk_21 4 (dk_at dksX4_asTold_1 4 rfl rfl)
theorem dX4_asTold_30 : decode cX4_asTold 30 = .ok (.if_icmp .ne 16, 3) := dk_160 0 16 (dk_at dksX4_asTold_1 6 rfl rfl)
theorem dX4_asTold_33 : decode cX4_asTold 33 = .ok (.aload_n 0, 1) := dk_42 (dk_at dksX4_asTold_1 9 rfl rfl)
theorem dX4_asTold_34 : decode cX4_asTold 34 = .ok (.getfield 24, 3) := dk_180 0 24 (dk_at dksX4_asTold_1 10 rfl rfl)
theorem dX4_asTold_37 : decode cX4_asTold 37 = .ok (.iload 5, 2) := dk_21 5 (dk_at dksX4_asTold_1 13 rfl rfl)
theorem dX4_asTold_39 : decode cX4_asTold 39 = .ok (.if_icmp .ne 7, 3) := dk_160 0 7 (dk_at dksX4_asTold_1 15 rfl rfl)
theorem dX4_asTold_42 : decode cX4_asTold 42 = .ok (.iconst 1, 1) := dk_4 (dk_at dksX4_asTold_1 18 rfl rfl)
theorem dX4_asTold_43 : decode cX4_asTold 43 = .ok (.goto 4, 3) := dk_167 0 4 (dk_at dksX4_asTold_1 19 rfl rfl)
theorem dX4_asTold_46 : decode cX4_asTold 46 = .ok (.iconst 0, 1) := dk_3 (dk_at dksX4_asTold_1 22 rfl rfl)
theorem dX4_asTold_47 : decode cX4_asTold 47 = .ok (.istore 6, 2) := dk_54 6 (dk_at dksX4_asTold_2 0 rfl rfl)
theorem dX4_asTold_49 : decode cX4_asTold 49 = .ok (.iload 6, 2) := dk_21 6 (dk_at dksX4_asTold_2 2 rfl rfl)
theorem dX4_asTold_51 : decode cX4_asTold 51 = .ok (.ifCond .eq 7, 3) := dk_153 0 7 (dk_at dksX4_asTold_2 4 rfl rfl)
theorem dX4_asTold_54 : decode cX4_asTold 54 = .ok (.aload_n 0, 1) := dk_42 (dk_at dksX4_asTold_2 7 rfl rfl)
theorem dX4_asTold_55 : decode cX4_asTold 55 = .ok (.goto 17, 3) := dk_167 0 17 (dk_at dksX4_asTold_2 8 rfl rfl)
theorem dX4_asTold_58 : decode cX4_asTold 58 = .ok (.new 10, 3) := dk_187 0 10 (dk_at dksX4_asTold_2 11 rfl rfl)
theorem dX4_asTold_61 : decode cX4_asTold 61 = .ok (.dup, 1) := dk_89 (dk_at dksX4_asTold_2 14 rfl rfl)
theorem dX4_asTold_62 : decode cX4_asTold 62 = .ok (.iload_n 1, 1) := dk_27 (dk_at dksX4_asTold_2 15 rfl rfl)
theorem dX4_asTold_63 : decode cX4_asTold 63 = .ok (.iload_n 2, 1) := dk_28 (dk_at dksX4_asTold_2 16 rfl rfl)
theorem dX4_asTold_64 : decode cX4_asTold 64 = .ok (.iload_n 3, 1) := dk_29 (dk_at dksX4_asTold_2 17 rfl rfl)
theorem dX4_asTold_65 : decode cX4_asTold 65 = .ok (.iload 4, 2) := dk_21 4 (dk_at dksX4_asTold_2 18 rfl rfl)
theorem dX4_asTold_67 : decode cX4_asTold 67 = .ok (.iload 5, 2) := dk_21 5 (dk_at dksX4_asTold_2 20 rfl rfl)
theorem dX4_asTold_69 : decode cX4_asTold 69 = .ok (.invokespecial 27, 3) := dk_183 0 27 (dk_at dksX4_asTold_3 0 rfl rfl)
theorem dX4_asTold_72 : decode cX4_asTold 72 = .ok (.areturn, 1) := dk_176 (dk_at dksX4_asTold_3 3 rfl rfl)
abbrev cX4_root : ByteArray := prog_9_method_4_code
def yX4_root : MethodName := ⟨RX4, "root", "()I"⟩
theorem dX4_root_0 : decode cX4_root 0 = .ok (.aload_n 0, 1) := by decide +kernel
theorem dX4_root_1 : decode cX4_root 1 = .ok (.getfield 9, 3) := by decide +kernel
theorem dX4_root_4 : decode cX4_root 4 = .ok (.ireturn, 1) := by decide +kernel
abbrev cX4_cost : ByteArray := prog_9_method_5_code
def yX4_cost : MethodName := ⟨RX4, "cost", "()I"⟩
theorem dX4_cost_0 : decode cX4_cost 0 = .ok (.aload_n 0, 1) := by decide +kernel
theorem dX4_cost_1 : decode cX4_cost 1 = .ok (.getfield 15, 3) := by decide +kernel
theorem dX4_cost_4 : decode cX4_cost 4 = .ok (.ireturn, 1) := by decide +kernel
abbrev cX4_teller : ByteArray := prog_9_method_6_code
def yX4_teller : MethodName := ⟨RX4, "teller", "()I"⟩
theorem dX4_teller_0 : decode cX4_teller 0 = .ok (.aload_n 0, 1) := by decide +kernel
theorem dX4_teller_1 : decode cX4_teller 1 = .ok (.getfield 18, 3) := by decide +kernel
theorem dX4_teller_4 : decode cX4_teller 4 = .ok (.ireturn, 1) := by decide +kernel
