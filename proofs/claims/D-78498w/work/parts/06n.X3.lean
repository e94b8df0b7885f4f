set_option maxRecDepth 100000
abbrev cX3_init : ByteArray := prog_2_method_1_code
def yX3_init : MethodName := ⟨RX3, "<init>", "(I)V"⟩
def dkwX3_init_1 : List UInt8 := [181, 0, 19, 42, 27, 181, 0, 22, 42, 42, 182, 0, 25, 184, 0, 29, 181, 0, 35, 42, 182, 0, 39, 177]
abbrev dktX3_init_1 : List UInt8 := dkwX3_init_1 ++ []
def dkwX3_init_0 : List UInt8 := [42, 183, 0, 3, 42, 8, 181, 0, 9, 42, 16, 8, 188, 10, 181, 0, 15, 42, 16, 8, 188, 10]
abbrev dktX3_init_0 : List UInt8 := dkwX3_init_0 ++ dktX3_init_1
theorem dksX3_init_0 : cX3_init.data.toList.drop 0 = dktX3_init_0 := by decide +kernel
theorem dksX3_init_1 : cX3_init.data.toList.drop 22 = dktX3_init_1 := dk_seg dksX3_init_0 22 rfl rfl
theorem dX3_init_0 : decode cX3_init 0 = .ok (.aload_n 0, 1) := dk_42 (dk_at dksX3_init_0 0 rfl rfl)
theorem dX3_init_1 : decode cX3_init 1 = .ok (.invokespecial 3, 3) := dk_183 0 3 (dk_at dksX3_init_0 1 rfl rfl)
theorem dX3_init_4 : decode cX3_init 4 = .ok (.aload_n 0, 1) := dk_42 (dk_at dksX3_init_0 4 rfl rfl)
theorem dX3_init_5 : decode cX3_init 5 = .ok (.iconst 5, 1) := dk_8 (dk_at dksX3_init_0 5 rfl rfl)
theorem dX3_init_6 : decode cX3_init 6 = .ok (.putfield 9, 3) := dk_181 0 9 (dk_at dksX3_init_0 6 rfl rfl)
theorem dX3_init_9 : decode cX3_init 9 = .ok (.aload_n 0, 1) := dk_42 (dk_at dksX3_init_0 9 rfl rfl)
theorem dX3_init_10 : decode cX3_init 10 = .ok (.bipush 8, 2) := dk_16 8 (dk_at dksX3_init_0 10 rfl rfl)
theorem dX3_init_12 : decode cX3_init 12 = .ok (.newarray .int, 2) := dk_188_10 (dk_at dksX3_init_0 12 rfl rfl)
theorem dX3_init_14 : decode cX3_init 14 = .ok (.putfield 15, 3) := dk_181 0 15 (dk_at dksX3_init_0 14 rfl rfl)
theorem dX3_init_17 : decode cX3_init 17 = .ok (.aload_n 0, 1) := dk_42 (dk_at dksX3_init_0 17 rfl rfl)
theorem dX3_init_18 : decode cX3_init 18 = .ok (.bipush 8, 2) := dk_16 8 (dk_at dksX3_init_0 18 rfl rfl)
theorem dX3_init_20 : decode cX3_init 20 = .ok (.newarray .int, 2) := dk_188_10 (dk_at dksX3_init_0 20 rfl rfl)
theorem dX3_init_22 : decode cX3_init 22 = .ok (.putfield 19, 3) := dk_181 0 19 (dk_at dksX3_init_1 0 rfl rfl)
theorem dX3_init_25 : decode cX3_init 25 = .ok (.aload_n 0, 1) := dk_42 (dk_at dksX3_init_1 3 rfl rfl)
theorem dX3_init_26 : decode cX3_init 26 = .ok (.iload_n 1, 1) := dk_27 (dk_at dksX3_init_1 4 rfl rfl)
theorem dX3_init_27 : decode cX3_init 27 = .ok (.putfield 22, 3) := dk_181 0 22 (dk_at dksX3_init_1 5 rfl rfl)
theorem dX3_init_30 : decode cX3_init 30 = .ok (.aload_n 0, 1) := dk_42 (dk_at dksX3_init_1 8 rfl rfl)
theorem dX3_init_31 : decode cX3_init 31 = .ok (.aload_n 0, 1) := dk_42 (dk_at dksX3_init_1 9 rfl rfl)
theorem dX3_init_32 : decode cX3_init 32 = .ok (.invokevirtual 25, 3) := dk_182 0 25 (dk_at dksX3_init_1 10 rfl rfl)
theorem dX3_init_35 : decode cX3_init 35 = .ok (.invokestatic 29, 3) := dk_184 0 29 (dk_at dksX3_init_1 13 rfl rfl)
theorem dX3_init_38 : decode cX3_init 38 = .ok (.putfield 35, 3) := dk_181 0 35 (dk_at dksX3_init_1 16 rfl rfl)
theorem dX3_init_41 : decode cX3_init 41 = .ok (.aload_n 0, 1) := dk_42 (dk_at dksX3_init_1 19 rfl rfl)
theorem dX3_init_42 : decode cX3_init 42 = .ok (.invokevirtual 39, 3) := dk_182 0 39 (dk_at dksX3_init_1 20 rfl rfl)
theorem dX3_init_45 : decode cX3_init 45 = .ok (.return_, 1) := dk_177 (dk_at dksX3_init_1 23 rfl rfl)
abbrev cX3_id : ByteArray := prog_2_method_3_code
def yX3_id : MethodName := ⟨RX3, "id", "()I"⟩
def dkwX3_id_0 : List UInt8 := [16, 10, 42, 180, 0, 9, 104, 42, 180, 0, 22, 96, 172]
abbrev dktX3_id_0 : List UInt8 := dkwX3_id_0 ++ []
theorem dksX3_id_0 : cX3_id.data.toList.drop 0 = dktX3_id_0 := by decide +kernel
theorem dX3_id_0 : decode cX3_id 0 = .ok (.bipush 10, 2) := dk_16 10 (dk_at dksX3_id_0 0 rfl rfl)
theorem dX3_id_2 : decode cX3_id 2 = .ok (.aload_n 0, 1) := dk_42 (dk_at dksX3_id_0 2 rfl rfl)
theorem dX3_id_3 : decode cX3_id 3 = .ok (.getfield 9, 3) := dk_180 0 9 (dk_at dksX3_id_0 3 rfl rfl)
theorem dX3_id_6 : decode cX3_id 6 = .ok (.imul, 1) := dk_104 (dk_at dksX3_id_0 6 rfl rfl)
theorem dX3_id_7 : decode cX3_id 7 = .ok (.aload_n 0, 1) := dk_42 (dk_at dksX3_id_0 7 rfl rfl)
theorem dX3_id_8 : decode cX3_id 8 = .ok (.getfield 22, 3) := dk_180 0 22 (dk_at dksX3_id_0 8 rfl rfl)
theorem dX3_id_11 : decode cX3_id 11 = .ok (.iadd, 1) := dk_96 (dk_at dksX3_id_0 11 rfl rfl)
theorem dX3_id_12 : decode cX3_id 12 = .ok (.ireturn, 1) := dk_172 (dk_at dksX3_id_0 12 rfl rfl)
abbrev cX3_flush : ByteArray := prog_2_method_7_code
def yX3_flush : MethodName := ⟨RX3, "flush", "()V"⟩
def dkwX3_flush_0 : List UInt8 := [42, 180, 0, 15, 2, 184, 0, 57, 177]
abbrev dktX3_flush_0 : List UInt8 := dkwX3_flush_0 ++ []
theorem dksX3_flush_0 : cX3_flush.data.toList.drop 0 = dktX3_flush_0 := by decide +kernel
theorem dX3_flush_0 : decode cX3_flush 0 = .ok (.aload_n 0, 1) := dk_42 (dk_at dksX3_flush_0 0 rfl rfl)
theorem dX3_flush_1 : decode cX3_flush 1 = .ok (.getfield 15, 3) := dk_180 0 15 (dk_at dksX3_flush_0 1 rfl rfl)
theorem dX3_flush_4 : decode cX3_flush 4 = .ok (.iconst (-1), 1) := dk_2 (dk_at dksX3_flush_0 4 rfl rfl)
theorem dX3_flush_5 : decode cX3_flush 5 = .ok (.invokestatic 57, 3) := dk_184 0 57 (dk_at dksX3_flush_0 5 rfl rfl)
theorem dX3_flush_8 : decode cX3_flush 8 = .ok (.return_, 1) := dk_177 (dk_at dksX3_flush_0 8 rfl rfl)
abbrev cX3_root : ByteArray := prog_2_method_4_code
def yX3_root : MethodName := ⟨RX3, "root", "()I"⟩
def dkwX3_root_0 : List UInt8 := [42, 180, 0, 35, 180, 0, 51, 172]
abbrev dktX3_root_0 : List UInt8 := dkwX3_root_0 ++ []
theorem dksX3_root_0 : cX3_root.data.toList.drop 0 = dktX3_root_0 := by decide +kernel
theorem dX3_root_0 : decode cX3_root 0 = .ok (.aload_n 0, 1) := dk_42 (dk_at dksX3_root_0 0 rfl rfl)
theorem dX3_root_1 : decode cX3_root 1 = .ok (.getfield 35, 3) := dk_180 0 35 (dk_at dksX3_root_0 1 rfl rfl)
theorem dX3_root_4 : decode cX3_root 4 = .ok (.getfield 51, 3) := dk_180 0 51 (dk_at dksX3_root_0 4 rfl rfl)
theorem dX3_root_7 : decode cX3_root 7 = .ok (.ireturn, 1) := dk_172 (dk_at dksX3_root_0 7 rfl rfl)
abbrev cX3_cost : ByteArray := prog_2_method_5_code
def yX3_cost : MethodName := ⟨RX3, "cost", "()I"⟩
def dkwX3_cost_0 : List UInt8 := [42, 180, 0, 35, 180, 0, 54, 172]
abbrev dktX3_cost_0 : List UInt8 := dkwX3_cost_0 ++ []
theorem dksX3_cost_0 : cX3_cost.data.toList.drop 0 = dktX3_cost_0 := by decide +kernel
theorem dX3_cost_0 : decode cX3_cost 0 = .ok (.aload_n 0, 1) := dk_42 (dk_at dksX3_cost_0 0 rfl rfl)
theorem dX3_cost_1 : decode cX3_cost 1 = .ok (.getfield 35, 3) := dk_180 0 35 (dk_at dksX3_cost_0 1 rfl rfl)
theorem dX3_cost_4 : decode cX3_cost 4 = .ok (.getfield 54, 3) := dk_180 0 54 (dk_at dksX3_cost_0 4 rfl rfl)
theorem dX3_cost_7 : decode cX3_cost 7 = .ok (.ireturn, 1) := dk_172 (dk_at dksX3_cost_0 7 rfl rfl)
abbrev cX3_teller : ByteArray := prog_2_method_6_code
def yX3_teller : MethodName := ⟨RX3, "teller", "()I"⟩
theorem dX3_teller_0 : decode cX3_teller 0 = .ok (.aload_n 0, 1) := by decide +kernel
theorem dX3_teller_1 : decode cX3_teller 1 = .ok (.invokevirtual 25, 3) := by decide +kernel
theorem dX3_teller_4 : decode cX3_teller 4 = .ok (.ireturn, 1) := by decide +kernel
abbrev cX3_copy : ByteArray := prog_2_method_2_code
def yX3_copy : MethodName := ⟨RX3, "copy", "()LBridgeAuction$Bridge;"⟩
def dkwX3_copy_2 : List UInt8 := [180, 0, 19, 3, 43, 180, 0, 19, 3, 16, 8, 184, 0, 45, 43, 176]
abbrev dktX3_copy_2 : List UInt8 := dkwX3_copy_2 ++ []
def dkwX3_copy_1 : List UInt8 := [180, 0, 35, 181, 0, 35, 42, 180, 0, 15, 3, 43, 180, 0, 15, 3, 16, 8, 184, 0, 45, 42]
abbrev dktX3_copy_1 : List UInt8 := dkwX3_copy_1 ++ dktX3_copy_2
def dkwX3_copy_0 : List UInt8 := [187, 0, 10, 89, 42, 180, 0, 22, 183, 0, 42, 76, 43, 42, 180, 0, 9, 181, 0, 9, 43, 42]
abbrev dktX3_copy_0 : List UInt8 := dkwX3_copy_0 ++ dktX3_copy_1
theorem dksX3_copy_0 : cX3_copy.data.toList.drop 0 = dktX3_copy_0 := by decide +kernel
theorem dksX3_copy_1 : cX3_copy.data.toList.drop 22 = dktX3_copy_1 := dk_seg dksX3_copy_0 22 rfl rfl
theorem dksX3_copy_2 : cX3_copy.data.toList.drop 44 = dktX3_copy_2 := dk_seg dksX3_copy_1 22 rfl rfl
theorem dX3_copy_0 : decode cX3_copy 0 = .ok (.new 10, 3) := dk_187 0 10 (dk_at dksX3_copy_0 0 rfl rfl)
theorem dX3_copy_3 : decode cX3_copy 3 = .ok (.dup, 1) := dk_89 (dk_at dksX3_copy_0 3 rfl rfl)
theorem dX3_copy_4 : decode cX3_copy 4 = .ok (.aload_n 0, 1) := dk_42 (dk_at dksX3_copy_0 4 rfl rfl)
theorem dX3_copy_5 : decode cX3_copy 5 = .ok (.getfield 22, 3) := dk_180 0 22 (dk_at dksX3_copy_0 5 rfl rfl)
theorem dX3_copy_8 : decode cX3_copy 8 = .ok (.invokespecial 42, 3) := dk_183 0 42 (dk_at dksX3_copy_0 8 rfl rfl)
theorem dX3_copy_11 : decode cX3_copy 11 = .ok (.astore_n 1, 1) := dk_76 (dk_at dksX3_copy_0 11 rfl rfl)
theorem dX3_copy_12 : decode cX3_copy 12 = .ok (.aload_n 1, 1) := dk_43 (dk_at dksX3_copy_0 12 rfl rfl)
theorem dX3_copy_13 : decode cX3_copy 13 = .ok (.aload_n 0, 1) := dk_42 (dk_at dksX3_copy_0 13 rfl rfl)
theorem dX3_copy_14 : decode cX3_copy 14 = .ok (.getfield 9, 3) := dk_180 0 9 (dk_at dksX3_copy_0 14 rfl rfl)
theorem dX3_copy_17 : decode cX3_copy 17 = .ok (.putfield 9, 3) := dk_181 0 9 (dk_at dksX3_copy_0 17 rfl rfl)
theorem dX3_copy_20 : decode cX3_copy 20 = .ok (.aload_n 1, 1) := dk_43 (dk_at dksX3_copy_0 20 rfl rfl)
theorem dX3_copy_21 : decode cX3_copy 21 = .ok (.aload_n 0, 1) := dk_42 (dk_at dksX3_copy_0 21 rfl rfl)
theorem dX3_copy_22 : decode cX3_copy 22 = .ok (.getfield 35, 3) := dk_180 0 35 (dk_at dksX3_copy_1 0 rfl rfl)
theorem dX3_copy_25 : decode cX3_copy 25 = .ok (.putfield 35, 3) := dk_181 0 35 (dk_at dksX3_copy_1 3 rfl rfl)
theorem dX3_copy_28 : decode cX3_copy 28 = .ok (.aload_n 0, 1) := dk_42 (dk_at dksX3_copy_1 6 rfl rfl)
theorem dX3_copy_29 : decode cX3_copy 29 = .ok (.getfield 15, 3) := dk_180 0 15 (dk_at dksX3_copy_1 7 rfl rfl)
theorem dX3_copy_32 : decode cX3_copy 32 = .ok (.iconst 0, 1) := dk_3 (dk_at dksX3_copy_1 10 rfl rfl)
theorem dX3_copy_33 : decode cX3_copy 33 = .ok (.aload_n 1, 1) := dk_43 (dk_at dksX3_copy_1 11 rfl rfl)
theorem dX3_copy_34 : decode cX3_copy 34 = .ok (.getfield 15, 3) := dk_180 0 15 (dk_at dksX3_copy_1 12 rfl rfl)
theorem dX3_copy_37 : decode cX3_copy 37 = .ok (.iconst 0, 1) := dk_3 (dk_at dksX3_copy_1 15 rfl rfl)
theorem dX3_copy_38 : decode cX3_copy 38 = .ok (.bipush 8, 2) := dk_16 8 (dk_at dksX3_copy_1 16 rfl rfl)
theorem dX3_copy_40 : decode cX3_copy 40 = .ok (.invokestatic 45, 3) := dk_184 0 45 (dk_at dksX3_copy_1 18 rfl rfl)
theorem dX3_copy_43 : decode cX3_copy 43 = .ok (.aload_n 0, 1) := dk_42 (dk_at dksX3_copy_1 21 rfl rfl)
theorem dX3_copy_44 : decode cX3_copy 44 = .ok (.getfield 19, 3) := dk_180 0 19 (dk_at dksX3_copy_2 0 rfl rfl)
theorem dX3_copy_47 : decode cX3_copy 47 = .ok (.iconst 0, 1) := dk_3 (dk_at dksX3_copy_2 3 rfl rfl)
theorem dX3_copy_48 : decode cX3_copy 48 = .ok (.aload_n 1, 1) := dk_43 (dk_at dksX3_copy_2 4 rfl rfl)
theorem dX3_copy_49 : decode cX3_copy 49 = .ok (.getfield 19, 3) := dk_180 0 19 (dk_at dksX3_copy_2 5 rfl rfl)
theorem dX3_copy_52 : decode cX3_copy 52 = .ok (.iconst 0, 1) := dk_3 (dk_at dksX3_copy_2 8 rfl rfl)
theorem dX3_copy_53 : decode cX3_copy 53 = .ok (.bipush 8, 2) := dk_16 8 (dk_at dksX3_copy_2 9 rfl rfl)
theorem dX3_copy_55 : decode cX3_copy 55 = .ok (.invokestatic 45, 3) := dk_184 0 45 (dk_at dksX3_copy_2 11 rfl rfl)
theorem dX3_copy_58 : decode cX3_copy 58 = .ok (.aload_n 1, 1) := dk_43 (dk_at dksX3_copy_2 14 rfl rfl)
theorem dX3_copy_59 : decode cX3_copy 59 = .ok (.areturn, 1) := dk_176 (dk_at dksX3_copy_2 15 rfl rfl)
abbrev cX3_value : ByteArray := prog_2_method_11_code
def yX3_value : MethodName := ⟨RX3, "value", "(I)I"⟩
def dkwX3_value_3 : List UInt8 := [180, 0, 35, 180, 0, 63, 172, 42, 180, 0, 35, 180, 0, 66, 172, 42, 182, 0, 69, 172]
abbrev dktX3_value_3 : List UInt8 := dkwX3_value_3 ++ []
def dkwX3_value_2 : List UInt8 := [42, 182, 0, 25, 172, 42, 180, 0, 35, 180, 0, 51, 172, 42, 180, 0, 35, 180, 0, 54, 172, 42]
abbrev dktX3_value_2 : List UInt8 := dkwX3_value_2 ++ dktX3_value_3
def dkwX3_value_1 : List UInt8 := [170, 0, 0, 0, 0, 0, 72, 0, 0, 0, 0, 0, 0, 0, 4, 0, 0, 0, 35, 0, 0, 0, 40, 0, 0, 0, 48, 0, 0, 0, 56, 0, 0, 0, 64]
abbrev dktX3_value_1 : List UInt8 := dkwX3_value_1 ++ dktX3_value_2
def dkwX3_value_0 : List UInt8 := [27]
abbrev dktX3_value_0 : List UInt8 := dkwX3_value_0 ++ dktX3_value_1
theorem dksX3_value_0 : cX3_value.data.toList.drop 0 = dktX3_value_0 := by decide +kernel
theorem dksX3_value_1 : cX3_value.data.toList.drop 1 = dktX3_value_1 := dk_seg dksX3_value_0 1 rfl rfl
theorem dksX3_value_2 : cX3_value.data.toList.drop 36 = dktX3_value_2 := dk_seg dksX3_value_1 35 rfl rfl
theorem dksX3_value_3 : cX3_value.data.toList.drop 58 = dktX3_value_3 := dk_seg dksX3_value_2 22 rfl rfl
theorem dX3_value_0 : decode cX3_value 0 = .ok (.iload_n 1, 1) := dk_27 (dk_at dksX3_value_0 0 rfl rfl)
theorem dX3_value_1 : decode cX3_value 1 = .ok (.tableswitch 72 0 4 #[35, 40, 48, 56, 64], 35) := by decide +kernel
theorem dX3_value_36 : decode cX3_value 36 = .ok (.aload_n 0, 1) := dk_42 (dk_at dksX3_value_2 0 rfl rfl)
theorem dX3_value_37 : decode cX3_value 37 = .ok (.invokevirtual 25, 3) := dk_182 0 25 (dk_at dksX3_value_2 1 rfl rfl)
theorem dX3_value_40 : decode cX3_value 40 = .ok (.ireturn, 1) := dk_172 (dk_at dksX3_value_2 4 rfl rfl)
theorem dX3_value_41 : decode cX3_value 41 = .ok (.aload_n 0, 1) := dk_42 (dk_at dksX3_value_2 5 rfl rfl)
theorem dX3_value_42 : decode cX3_value 42 = .ok (.getfield 35, 3) := dk_180 0 35 (dk_at dksX3_value_2 6 rfl rfl)
theorem dX3_value_45 : decode cX3_value 45 = .ok (.getfield 51, 3) := dk_180 0 51 (dk_at dksX3_value_2 9 rfl rfl)
theorem dX3_value_48 : decode cX3_value 48 = .ok (.ireturn, 1) := dk_172 (dk_at dksX3_value_2 12 rfl rfl)
theorem dX3_value_49 : decode cX3_value 49 = .ok (.aload_n 0, 1) := dk_42 (dk_at dksX3_value_2 13 rfl rfl)
theorem dX3_value_50 : decode cX3_value 50 = .ok (.getfield 35, 3) := dk_180 0 35 (dk_at dksX3_value_2 14 rfl rfl)
theorem dX3_value_53 : decode cX3_value 53 = .ok (.getfield 54, 3) := dk_180 0 54 (dk_at dksX3_value_2 17 rfl rfl)
theorem dX3_value_56 : decode cX3_value 56 = .ok (.ireturn, 1) := dk_172 (dk_at dksX3_value_2 20 rfl rfl)
theorem dX3_value_57 : decode cX3_value 57 = .ok (.aload_n 0, 1) := dk_42 (dk_at dksX3_value_2 21 rfl rfl)
theorem dX3_value_58 : decode cX3_value 58 = .ok (.getfield 35, 3) := dk_180 0 35 (dk_at dksX3_value_3 0 rfl rfl)
theorem dX3_value_61 : decode cX3_value 61 = .ok (.getfield 63, 3) := dk_180 0 63 (dk_at dksX3_value_3 3 rfl rfl)
theorem dX3_value_64 : decode cX3_value 64 = .ok (.ireturn, 1) := dk_172 (dk_at dksX3_value_3 6 rfl rfl)
theorem dX3_value_65 : decode cX3_value 65 = .ok (.aload_n 0, 1) := dk_42 (dk_at dksX3_value_3 7 rfl rfl)
theorem dX3_value_66 : decode cX3_value 66 = .ok (.getfield 35, 3) := dk_180 0 35 (dk_at dksX3_value_3 8 rfl rfl)
theorem dX3_value_69 : decode cX3_value 69 = .ok (.getfield 66, 3) := dk_180 0 66 (dk_at dksX3_value_3 11 rfl rfl)
theorem dX3_value_72 : decode cX3_value 72 = .ok (.ireturn, 1) := dk_172 (dk_at dksX3_value_3 14 rfl rfl)
theorem dX3_value_73 : decode cX3_value 73 = .ok (.aload_n 0, 1) := dk_42 (dk_at dksX3_value_3 15 rfl rfl)
theorem dX3_value_74 : decode cX3_value 74 = .ok (.invokevirtual 69, 3) := dk_182 0 69 (dk_at dksX3_value_3 16 rfl rfl)
theorem dX3_value_77 : decode cX3_value 77 = .ok (.ireturn, 1) := dk_172 (dk_at dksX3_value_3 19 rfl rfl)
abbrev cX3_entryCount : ByteArray := prog_2_method_8_code
def yX3_entryCount : MethodName := ⟨RX3, "entryCount", "()I"⟩
def dkwX3_entryCount_1 : List UInt8 := [54, 5, 27, 21, 5, 2, 160, 0, 7, 3, 167, 0, 4, 4, 96, 60, 132, 4, 1, 167, 255, 227, 27, 172]
abbrev dktX3_entryCount_1 : List UInt8 := dkwX3_entryCount_1 ++ []
def dkwX3_entryCount_0 : List UInt8 := [3, 60, 42, 180, 0, 15, 77, 44, 190, 62, 3, 54, 4, 21, 4, 29, 162, 0, 29, 44, 21, 4, 46]
abbrev dktX3_entryCount_0 : List UInt8 := dkwX3_entryCount_0 ++ dktX3_entryCount_1
theorem dksX3_entryCount_0 : cX3_entryCount.data.toList.drop 0 = dktX3_entryCount_0 := by decide +kernel
theorem dksX3_entryCount_1 : cX3_entryCount.data.toList.drop 23 = dktX3_entryCount_1 := dk_seg dksX3_entryCount_0 23 rfl rfl
theorem dX3_entryCount_0 : decode cX3_entryCount 0 = .ok (.iconst 0, 1) := dk_3 (dk_at dksX3_entryCount_0 0 rfl rfl)
theorem dX3_entryCount_1 : decode cX3_entryCount 1 = .ok (.istore_n 1, 1) := dk_60 (dk_at dksX3_entryCount_0 1 rfl rfl)
theorem dX3_entryCount_2 : decode cX3_entryCount 2 = .ok (.aload_n 0, 1) := dk_42 (dk_at dksX3_entryCount_0 2 rfl rfl)
theorem dX3_entryCount_3 : decode cX3_entryCount 3 = .ok (.getfield 15, 3) := dk_180 0 15 (dk_at dksX3_entryCount_0 3 rfl rfl)
theorem dX3_entryCount_6 : decode cX3_entryCount 6 = .ok (.astore_n 2, 1) := dk_77 (dk_at dksX3_entryCount_0 6 rfl rfl)
theorem dX3_entryCount_7 : decode cX3_entryCount 7 = .ok (.aload_n 2, 1) := dk_44 (dk_at dksX3_entryCount_0 7 rfl rfl)
theorem dX3_entryCount_8 : decode cX3_entryCount 8 = .ok (.arraylength, 1) := dk_190 (dk_at dksX3_entryCount_0 8 rfl rfl)
theorem dX3_entryCount_9 : decode cX3_entryCount 9 = .ok (.istore_n 3, 1) := dk_62 (dk_at dksX3_entryCount_0 9 rfl rfl)
theorem dX3_entryCount_10 : decode cX3_entryCount 10 = .ok (.iconst 0, 1) := dk_3 (dk_at dksX3_entryCount_0 10 rfl rfl)
theorem dX3_entryCount_11 : decode cX3_entryCount 11 = .ok (.istore 4, 2) := dk_54 4 (dk_at dksX3_entryCount_0 11 rfl rfl)
theorem dX3_entryCount_13 : decode cX3_entryCount 13 = .ok (.iload 4, 2) := dk_21 4 (dk_at dksX3_entryCount_0 13 rfl rfl)
theorem dX3_entryCount_15 : decode cX3_entryCount 15 = .ok (.iload_n 3, 1) := dk_29 (dk_at dksX3_entryCount_0 15 rfl rfl)
theorem dX3_entryCount_16 : decode cX3_entryCount 16 = .ok (.if_icmp .ge 29, 3) := dk_162 0 29 (dk_at dksX3_entryCount_0 16 rfl rfl)
theorem dX3_entryCount_19 : decode cX3_entryCount 19 = .ok (.aload_n 2, 1) := dk_44 (dk_at dksX3_entryCount_0 19 rfl rfl)
theorem dX3_entryCount_20 : decode cX3_entryCount 20 = .ok (.iload 4, 2) := dk_21 4 (dk_at dksX3_entryCount_0 20 rfl rfl)
theorem dX3_entryCount_22 : decode cX3_entryCount 22 = .ok (.iaload, 1) := dk_46 (dk_at dksX3_entryCount_0 22 rfl rfl)
theorem dX3_entryCount_23 : decode cX3_entryCount 23 = .ok (.istore 5, 2) := dk_54 5 (dk_at dksX3_entryCount_1 0 rfl rfl)
theorem dX3_entryCount_25 : decode cX3_entryCount 25 = .ok (.iload_n 1, 1) := dk_27 (dk_at dksX3_entryCount_1 2 rfl rfl)
theorem dX3_entryCount_26 : decode cX3_entryCount 26 = .ok (.iload 5, 2) := dk_21 5 (dk_at dksX3_entryCount_1 3 rfl rfl)
theorem dX3_entryCount_28 : decode cX3_entryCount 28 = .ok (.iconst (-1), 1) := dk_2 (dk_at dksX3_entryCount_1 5 rfl rfl)
theorem dX3_entryCount_29 : decode cX3_entryCount 29 = .ok (.if_icmp .ne 7, 3) := dk_160 0 7 (dk_at dksX3_entryCount_1 6 rfl rfl)
theorem dX3_entryCount_32 : decode cX3_entryCount 32 = .ok (.iconst 0, 1) := dk_3 (dk_at dksX3_entryCount_1 9 rfl rfl)
theorem dX3_entryCount_33 : decode cX3_entryCount 33 = .ok (.goto 4, 3) := dk_167 0 4 (dk_at dksX3_entryCount_1 10 rfl rfl)
theorem dX3_entryCount_36 : decode cX3_entryCount 36 = .ok (.iconst 1, 1) := dk_4 (dk_at dksX3_entryCount_1 13 rfl rfl)
theorem dX3_entryCount_37 : decode cX3_entryCount 37 = .ok (.iadd, 1) := dk_96 (dk_at dksX3_entryCount_1 14 rfl rfl)
theorem dX3_entryCount_38 : decode cX3_entryCount 38 = .ok (.istore_n 1, 1) := dk_60 (dk_at dksX3_entryCount_1 15 rfl rfl)
theorem dX3_entryCount_39 : decode cX3_entryCount 39 = .ok (.iinc 4 1, 3) := dk_132 4 1 (dk_at dksX3_entryCount_1 16 rfl rfl)
theorem dX3_entryCount_42 : decode cX3_entryCount 42 = .ok (.goto (-29), 3) := dk_167 255 227 (dk_at dksX3_entryCount_1 19 rfl rfl)
theorem dX3_entryCount_45 : decode cX3_entryCount 45 = .ok (.iload_n 1, 1) := dk_27 (dk_at dksX3_entryCount_1 22 rfl rfl)
theorem dX3_entryCount_46 : decode cX3_entryCount 46 = .ok (.ireturn, 1) := dk_172 (dk_at dksX3_entryCount_1 23 rfl rfl)
abbrev cX3_entry : ByteArray := prog_2_method_9_code
def yX3_entry : MethodName := ⟨RX3, "entry", "(II)I"⟩
def dkwX3_entry_1 : List UInt8 := [180, 0, 15, 27, 46, 167, 0, 4, 2, 172]
abbrev dktX3_entry_1 : List UInt8 := dkwX3_entry_1 ++ []
def dkwX3_entry_0 : List UInt8 := [42, 180, 0, 15, 27, 46, 2, 159, 0, 25, 28, 42, 180, 0, 19, 27, 46, 100, 16, 50, 163, 0, 12, 42]
abbrev dktX3_entry_0 : List UInt8 := dkwX3_entry_0 ++ dktX3_entry_1
theorem dksX3_entry_0 : cX3_entry.data.toList.drop 0 = dktX3_entry_0 := by decide +kernel
theorem dksX3_entry_1 : cX3_entry.data.toList.drop 24 = dktX3_entry_1 := dk_seg dksX3_entry_0 24 rfl rfl
theorem dX3_entry_0 : decode cX3_entry 0 = .ok (.aload_n 0, 1) := dk_42 (dk_at dksX3_entry_0 0 rfl rfl)
theorem dX3_entry_1 : decode cX3_entry 1 = .ok (.getfield 15, 3) := dk_180 0 15 (dk_at dksX3_entry_0 1 rfl rfl)
theorem dX3_entry_4 : decode cX3_entry 4 = .ok (.iload_n 1, 1) := dk_27 (dk_at dksX3_entry_0 4 rfl rfl)
theorem dX3_entry_5 : decode cX3_entry 5 = .ok (.iaload, 1) := dk_46 (dk_at dksX3_entry_0 5 rfl rfl)
theorem dX3_entry_6 : decode cX3_entry 6 = .ok (.iconst (-1), 1) := dk_2 (dk_at dksX3_entry_0 6 rfl rfl)
theorem dX3_entry_7 : decode cX3_entry 7 = .ok (.if_icmp .eq 25, 3) := dk_159 0 25 (dk_at dksX3_entry_0 7 rfl rfl)
theorem dX3_entry_10 : decode cX3_entry 10 = .ok (.iload_n 2, 1) := dk_28 (dk_at dksX3_entry_0 10 rfl rfl)
theorem dX3_entry_11 : decode cX3_entry 11 = .ok (.aload_n 0, 1) := dk_42 (dk_at dksX3_entry_0 11 rfl rfl)
theorem dX3_entry_12 : decode cX3_entry 12 = .ok (.getfield 19, 3) := dk_180 0 19 (dk_at dksX3_entry_0 12 rfl rfl)
theorem dX3_entry_15 : decode cX3_entry 15 = .ok (.iload_n 1, 1) := dk_27 (dk_at dksX3_entry_0 15 rfl rfl)
theorem dX3_entry_16 : decode cX3_entry 16 = .ok (.iaload, 1) := dk_46 (dk_at dksX3_entry_0 16 rfl rfl)
theorem dX3_entry_17 : decode cX3_entry 17 = .ok (.isub, 1) := dk_100 (dk_at dksX3_entry_0 17 rfl rfl)
theorem dX3_entry_18 : decode cX3_entry 18 = .ok (.bipush 50, 2) := dk_16 50 (dk_at dksX3_entry_0 18 rfl rfl)
theorem dX3_entry_20 : decode cX3_entry 20 = .ok (.if_icmp .gt 12, 3) := dk_163 0 12 (dk_at dksX3_entry_0 20 rfl rfl)
theorem dX3_entry_23 : decode cX3_entry 23 = .ok (.aload_n 0, 1) := dk_42 (dk_at dksX3_entry_0 23 rfl rfl)
theorem dX3_entry_24 : decode cX3_entry 24 = .ok (.getfield 15, 3) := dk_180 0 15 (dk_at dksX3_entry_1 0 rfl rfl)
theorem dX3_entry_27 : decode cX3_entry 27 = .ok (.iload_n 1, 1) := dk_27 (dk_at dksX3_entry_1 3 rfl rfl)
theorem dX3_entry_28 : decode cX3_entry 28 = .ok (.iaload, 1) := dk_46 (dk_at dksX3_entry_1 4 rfl rfl)
theorem dX3_entry_29 : decode cX3_entry 29 = .ok (.goto 4, 3) := dk_167 0 4 (dk_at dksX3_entry_1 5 rfl rfl)
theorem dX3_entry_32 : decode cX3_entry 32 = .ok (.iconst (-1), 1) := dk_2 (dk_at dksX3_entry_1 8 rfl rfl)
theorem dX3_entry_33 : decode cX3_entry 33 = .ok (.ireturn, 1) := dk_172 (dk_at dksX3_entry_1 9 rfl rfl)
abbrev cX3_learn : ByteArray := prog_2_method_10_code
def yX3_learn : MethodName := ⟨RX3, "learn", "(III)V"⟩
def dkwX3_learn_0 : List UInt8 := [42, 180, 0, 15, 27, 28, 79, 42, 180, 0, 19, 27, 29, 79, 177]
abbrev dktX3_learn_0 : List UInt8 := dkwX3_learn_0 ++ []
theorem dksX3_learn_0 : cX3_learn.data.toList.drop 0 = dktX3_learn_0 := by decide +kernel
theorem dX3_learn_0 : decode cX3_learn 0 = .ok (.aload_n 0, 1) := dk_42 (dk_at dksX3_learn_0 0 rfl rfl)
theorem dX3_learn_1 : decode cX3_learn 1 = .ok (.getfield 15, 3) := dk_180 0 15 (dk_at dksX3_learn_0 1 rfl rfl)
theorem dX3_learn_4 : decode cX3_learn 4 = .ok (.iload_n 1, 1) := dk_27 (dk_at dksX3_learn_0 4 rfl rfl)
theorem dX3_learn_5 : decode cX3_learn 5 = .ok (.iload_n 2, 1) := dk_28 (dk_at dksX3_learn_0 5 rfl rfl)
theorem dX3_learn_6 : decode cX3_learn 6 = .ok (.iastore, 1) := dk_79 (dk_at dksX3_learn_0 6 rfl rfl)
theorem dX3_learn_7 : decode cX3_learn 7 = .ok (.aload_n 0, 1) := dk_42 (dk_at dksX3_learn_0 7 rfl rfl)
theorem dX3_learn_8 : decode cX3_learn 8 = .ok (.getfield 19, 3) := dk_180 0 19 (dk_at dksX3_learn_0 8 rfl rfl)
theorem dX3_learn_11 : decode cX3_learn 11 = .ok (.iload_n 1, 1) := dk_27 (dk_at dksX3_learn_0 11 rfl rfl)
theorem dX3_learn_12 : decode cX3_learn 12 = .ok (.iload_n 3, 1) := dk_29 (dk_at dksX3_learn_0 12 rfl rfl)
theorem dX3_learn_13 : decode cX3_learn 13 = .ok (.iastore, 1) := dk_79 (dk_at dksX3_learn_0 13 rfl rfl)
theorem dX3_learn_14 : decode cX3_learn 14 = .ok (.return_, 1) := dk_177 (dk_at dksX3_learn_0 14 rfl rfl)
