set_option maxRecDepth 100000
abbrev cX2_begun : ByteArray := prog_5_method_3_code
def yX2_begun : MethodName := ⟨RX2, "begun", "(I)LBridgeAuction$Network;"⟩
def dkwX2_begun_3 : List UInt8 := [176]
abbrev dktX2_begun_3 : List UInt8 := dkwX2_begun_3 ++ []
def dkwX2_begun_2 : List UInt8 := [180, 0, 21, 28, 28, 26, 112, 79, 132, 2, 1, 167, 255, 238, 43, 180, 0, 25, 16, 100, 184, 0, 95, 43]
abbrev dktX2_begun_2 : List UInt8 := dkwX2_begun_2 ++ dktX2_begun_3
def dkwX2_begun_1 : List UInt8 := [183, 0, 92, 182, 0, 59, 62, 132, 2, 1, 167, 255, 232, 3, 61, 28, 16, 8, 162, 0, 18, 43]
abbrev dktX2_begun_1 : List UInt8 := dkwX2_begun_1 ++ dktX2_begun_2
def dkwX2_begun_0 : List UInt8 := [187, 0, 13, 89, 183, 0, 44, 76, 3, 61, 28, 26, 162, 0, 25, 43, 180, 0, 12, 187, 0, 53, 89, 28]
abbrev dktX2_begun_0 : List UInt8 := dkwX2_begun_0 ++ dktX2_begun_1
theorem dksX2_begun_0 : cX2_begun.data.toList.drop 0 = dktX2_begun_0 := by decide +kernel
theorem dksX2_begun_1 : cX2_begun.data.toList.drop 24 = dktX2_begun_1 := dk_seg dksX2_begun_0 24 rfl rfl
theorem dksX2_begun_2 : cX2_begun.data.toList.drop 46 = dktX2_begun_2 := dk_seg dksX2_begun_1 22 rfl rfl
theorem dksX2_begun_3 : cX2_begun.data.toList.drop 70 = dktX2_begun_3 := dk_seg dksX2_begun_2 24 rfl rfl
theorem dX2_begun_0 : decode cX2_begun 0 = .ok (.new 13, 3) := dk_187 0 13 (dk_at dksX2_begun_0 0 rfl rfl)
theorem dX2_begun_3 : decode cX2_begun 3 = .ok (.dup, 1) := dk_89 (dk_at dksX2_begun_0 3 rfl rfl)
theorem dX2_begun_4 : decode cX2_begun 4 = .ok (.invokespecial 44, 3) := dk_183 0 44 (dk_at dksX2_begun_0 4 rfl rfl)
theorem dX2_begun_7 : decode cX2_begun 7 = .ok (.astore_n 1, 1) := dk_76 (dk_at dksX2_begun_0 7 rfl rfl)
theorem dX2_begun_8 : decode cX2_begun 8 = .ok (.iconst 0, 1) := dk_3 (dk_at dksX2_begun_0 8 rfl rfl)
theorem dX2_begun_9 : decode cX2_begun 9 = .ok (.istore_n 2, 1) := dk_61 (dk_at dksX2_begun_0 9 rfl rfl)
theorem dX2_begun_10 : decode cX2_begun 10 = .ok (.iload_n 2, 1) := dk_28 (dk_at dksX2_begun_0 10 rfl rfl)
theorem dX2_begun_11 : decode cX2_begun 11 = .ok (.iload_n 0, 1) := dk_26 (dk_at dksX2_begun_0 11 rfl rfl)
theorem dX2_begun_12 : decode cX2_begun 12 = .ok (.if_icmp .ge 25, 3) := dk_162 0 25 (dk_at dksX2_begun_0 12 rfl rfl)
theorem dX2_begun_15 : decode cX2_begun 15 = .ok (.aload_n 1, 1) := dk_43 (dk_at dksX2_begun_0 15 rfl rfl)
theorem dX2_begun_16 : decode cX2_begun 16 = .ok (.getfield 12, 3) := dk_180 0 12 (dk_at dksX2_begun_0 16 rfl rfl)
theorem dX2_begun_19 : decode cX2_begun 19 = .ok (.new 53, 3) := dk_187 0 53 (dk_at dksX2_begun_0 19 rfl rfl)
theorem dX2_begun_22 : decode cX2_begun 22 = .ok (.dup, 1) := dk_89 (dk_at dksX2_begun_0 22 rfl rfl)
theorem dX2_begun_23 : decode cX2_begun 23 = .ok (.iload_n 2, 1) := dk_28 (dk_at dksX2_begun_0 23 rfl rfl)
theorem dX2_begun_24 : decode cX2_begun 24 = .ok (.invokespecial 92, 3) := dk_183 0 92 (dk_at dksX2_begun_1 0 rfl rfl)
theorem dX2_begun_27 : decode cX2_begun 27 = .ok (.invokevirtual 59, 3) := dk_182 0 59 (dk_at dksX2_begun_1 3 rfl rfl)
theorem dX2_begun_30 : decode cX2_begun 30 = .ok (.istore_n 3, 1) := dk_62 (dk_at dksX2_begun_1 6 rfl rfl)
theorem dX2_begun_31 : decode cX2_begun 31 = .ok (.iinc 2 1, 3) := dk_132 2 1 (dk_at dksX2_begun_1 7 rfl rfl)
theorem dX2_begun_34 : decode cX2_begun 34 = .ok (.goto (-24), 3) := dk_167 255 232 (dk_at dksX2_begun_1 10 rfl rfl)
theorem dX2_begun_37 : decode cX2_begun 37 = .ok (.iconst 0, 1) := dk_3 (dk_at dksX2_begun_1 13 rfl rfl)
theorem dX2_begun_38 : decode cX2_begun 38 = .ok (.istore_n 2, 1) := dk_61 (dk_at dksX2_begun_1 14 rfl rfl)
theorem dX2_begun_39 : decode cX2_begun 39 = .ok (.iload_n 2, 1) := dk_28 (dk_at dksX2_begun_1 15 rfl rfl)
theorem dX2_begun_40 : decode cX2_begun 40 = .ok (.bipush 8, 2) := dk_16 8 (dk_at dksX2_begun_1 16 rfl rfl)
theorem dX2_begun_42 : decode cX2_begun 42 = .ok (.if_icmp .ge 18, 3) := dk_162 0 18 (dk_at dksX2_begun_1 18 rfl rfl)
theorem dX2_begun_45 : decode cX2_begun 45 = .ok (.aload_n 1, 1) := dk_43 (dk_at dksX2_begun_1 21 rfl rfl)
theorem dX2_begun_46 : decode cX2_begun 46 = .ok (.getfield 21, 3) := dk_180 0 21 (dk_at dksX2_begun_2 0 rfl rfl)
theorem dX2_begun_49 : decode cX2_begun 49 = .ok (.iload_n 2, 1) := dk_28 (dk_at dksX2_begun_2 3 rfl rfl)
theorem dX2_begun_50 : decode cX2_begun 50 = .ok (.iload_n 2, 1) := dk_28 (dk_at dksX2_begun_2 4 rfl rfl)
theorem dX2_begun_51 : decode cX2_begun 51 = .ok (.iload_n 0, 1) := dk_26 (dk_at dksX2_begun_2 5 rfl rfl)
theorem dX2_begun_52 : decode cX2_begun 52 = .ok (.irem, 1) := dk_112 (dk_at dksX2_begun_2 6 rfl rfl)
theorem dX2_begun_53 : decode cX2_begun 53 = .ok (.iastore, 1) := dk_79 (dk_at dksX2_begun_2 7 rfl rfl)
theorem dX2_begun_54 : decode cX2_begun 54 = .ok (.iinc 2 1, 3) := dk_132 2 1 (dk_at dksX2_begun_2 8 rfl rfl)
theorem dX2_begun_57 : decode cX2_begun 57 = .ok (.goto (-18), 3) := dk_167 255 238 (dk_at dksX2_begun_2 11 rfl rfl)
theorem dX2_begun_60 : decode cX2_begun 60 = .ok (.aload_n 1, 1) := dk_43 (dk_at dksX2_begun_2 14 rfl rfl)
theorem dX2_begun_61 : decode cX2_begun 61 = .ok (.getfield 25, 3) := dk_180 0 25 (dk_at dksX2_begun_2 15 rfl rfl)
theorem dX2_begun_64 : decode cX2_begun 64 = .ok (.bipush 100, 2) := dk_16 100 (dk_at dksX2_begun_2 18 rfl rfl)
theorem dX2_begun_66 : decode cX2_begun 66 = .ok (.invokestatic 95, 3) := dk_184 0 95 (dk_at dksX2_begun_2 20 rfl rfl)
theorem dX2_begun_69 : decode cX2_begun 69 = .ok (.aload_n 1, 1) := dk_43 (dk_at dksX2_begun_2 23 rfl rfl)
theorem dX2_begun_70 : decode cX2_begun 70 = .ok (.areturn, 1) := dk_176 (dk_at dksX2_begun_3 0 rfl rfl)
abbrev cX2_init : ByteArray := prog_5_method_1_code
def yX2_init : MethodName := ⟨RX2, "<init>", "()V"⟩
def dkwX2_init_3 : List UInt8 := [181, 0, 41, 177]
abbrev dktX2_init_3 : List UInt8 := dkwX2_init_3 ++ []
def dkwX2_init_2 : List UInt8 := [181, 0, 28, 42, 7, 188, 10, 181, 0, 31, 42, 6, 181, 0, 34, 42, 16, 10, 181, 0, 38, 42, 8]
abbrev dktX2_init_2 : List UInt8 := dkwX2_init_2 ++ dktX2_init_3
def dkwX2_init_1 : List UInt8 := [181, 0, 18, 42, 16, 8, 188, 10, 181, 0, 21, 42, 7, 188, 10, 181, 0, 25, 42, 7, 188, 10]
abbrev dktX2_init_1 : List UInt8 := dkwX2_init_1 ++ dktX2_init_2
def dkwX2_init_0 : List UInt8 := [42, 183, 0, 3, 42, 187, 0, 9, 89, 183, 0, 11, 181, 0, 12, 42, 187, 0, 9, 89, 183, 0, 11]
abbrev dktX2_init_0 : List UInt8 := dkwX2_init_0 ++ dktX2_init_1
theorem dksX2_init_0 : cX2_init.data.toList.drop 0 = dktX2_init_0 := by decide +kernel
theorem dksX2_init_1 : cX2_init.data.toList.drop 23 = dktX2_init_1 := dk_seg dksX2_init_0 23 rfl rfl
theorem dksX2_init_2 : cX2_init.data.toList.drop 45 = dktX2_init_2 := dk_seg dksX2_init_1 22 rfl rfl
theorem dksX2_init_3 : cX2_init.data.toList.drop 68 = dktX2_init_3 := dk_seg dksX2_init_2 23 rfl rfl
theorem dX2_init_0 : decode cX2_init 0 = .ok (.aload_n 0, 1) := dk_42 (dk_at dksX2_init_0 0 rfl rfl)
theorem dX2_init_1 : decode cX2_init 1 = .ok (.invokespecial 3, 3) := dk_183 0 3 (dk_at dksX2_init_0 1 rfl rfl)
theorem dX2_init_4 : decode cX2_init 4 = .ok (.aload_n 0, 1) := dk_42 (dk_at dksX2_init_0 4 rfl rfl)
theorem dX2_init_5 : decode cX2_init 5 = .ok (.new 9, 3) := dk_187 0 9 (dk_at dksX2_init_0 5 rfl rfl)
theorem dX2_init_8 : decode cX2_init 8 = .ok (.dup, 1) := dk_89 (dk_at dksX2_init_0 8 rfl rfl)
theorem dX2_init_9 : decode cX2_init 9 = .ok (.invokespecial 11, 3) := dk_183 0 11 (dk_at dksX2_init_0 9 rfl rfl)
theorem dX2_init_12 : decode cX2_init 12 = .ok (.putfield 12, 3) := dk_181 0 12 (dk_at dksX2_init_0 12 rfl rfl)
theorem dX2_init_15 : decode cX2_init 15 = .ok (.aload_n 0, 1) := dk_42 (dk_at dksX2_init_0 15 rfl rfl)
theorem dX2_init_16 : decode cX2_init 16 = .ok (.new 9, 3) := dk_187 0 9 (dk_at dksX2_init_0 16 rfl rfl)
theorem dX2_init_19 : decode cX2_init 19 = .ok (.dup, 1) := dk_89 (dk_at dksX2_init_0 19 rfl rfl)
theorem dX2_init_20 : decode cX2_init 20 = .ok (.invokespecial 11, 3) := dk_183 0 11 (dk_at dksX2_init_0 20 rfl rfl)
theorem dX2_init_23 : decode cX2_init 23 = .ok (.putfield 18, 3) := dk_181 0 18 (dk_at dksX2_init_1 0 rfl rfl)
theorem dX2_init_26 : decode cX2_init 26 = .ok (.aload_n 0, 1) := dk_42 (dk_at dksX2_init_1 3 rfl rfl)
theorem dX2_init_27 : decode cX2_init 27 = .ok (.bipush 8, 2) := dk_16 8 (dk_at dksX2_init_1 4 rfl rfl)
theorem dX2_init_29 : decode cX2_init 29 = .ok (.newarray .int, 2) := dk_188_10 (dk_at dksX2_init_1 6 rfl rfl)
theorem dX2_init_31 : decode cX2_init 31 = .ok (.putfield 21, 3) := dk_181 0 21 (dk_at dksX2_init_1 8 rfl rfl)
theorem dX2_init_34 : decode cX2_init 34 = .ok (.aload_n 0, 1) := dk_42 (dk_at dksX2_init_1 11 rfl rfl)
theorem dX2_init_35 : decode cX2_init 35 = .ok (.iconst 4, 1) := dk_7 (dk_at dksX2_init_1 12 rfl rfl)
theorem dX2_init_36 : decode cX2_init 36 = .ok (.newarray .int, 2) := dk_188_10 (dk_at dksX2_init_1 13 rfl rfl)
theorem dX2_init_38 : decode cX2_init 38 = .ok (.putfield 25, 3) := dk_181 0 25 (dk_at dksX2_init_1 15 rfl rfl)
theorem dX2_init_41 : decode cX2_init 41 = .ok (.aload_n 0, 1) := dk_42 (dk_at dksX2_init_1 18 rfl rfl)
theorem dX2_init_42 : decode cX2_init 42 = .ok (.iconst 4, 1) := dk_7 (dk_at dksX2_init_1 19 rfl rfl)
theorem dX2_init_43 : decode cX2_init 43 = .ok (.newarray .int, 2) := dk_188_10 (dk_at dksX2_init_1 20 rfl rfl)
theorem dX2_init_45 : decode cX2_init 45 = .ok (.putfield 28, 3) := dk_181 0 28 (dk_at dksX2_init_2 0 rfl rfl)
theorem dX2_init_48 : decode cX2_init 48 = .ok (.aload_n 0, 1) := dk_42 (dk_at dksX2_init_2 3 rfl rfl)
theorem dX2_init_49 : decode cX2_init 49 = .ok (.iconst 4, 1) := dk_7 (dk_at dksX2_init_2 4 rfl rfl)
theorem dX2_init_50 : decode cX2_init 50 = .ok (.newarray .int, 2) := dk_188_10 (dk_at dksX2_init_2 5 rfl rfl)
theorem dX2_init_52 : decode cX2_init 52 = .ok (.putfield 31, 3) := dk_181 0 31 (dk_at dksX2_init_2 7 rfl rfl)
theorem dX2_init_55 : decode cX2_init 55 = .ok (.aload_n 0, 1) := dk_42 (dk_at dksX2_init_2 10 rfl rfl)
theorem dX2_init_56 : decode cX2_init 56 = .ok (.iconst 3, 1) := dk_6 (dk_at dksX2_init_2 11 rfl rfl)
theorem dX2_init_57 : decode cX2_init 57 = .ok (.putfield 34, 3) := dk_181 0 34 (dk_at dksX2_init_2 12 rfl rfl)
theorem dX2_init_60 : decode cX2_init 60 = .ok (.aload_n 0, 1) := dk_42 (dk_at dksX2_init_2 15 rfl rfl)
theorem dX2_init_61 : decode cX2_init 61 = .ok (.bipush 10, 2) := dk_16 10 (dk_at dksX2_init_2 16 rfl rfl)
theorem dX2_init_63 : decode cX2_init 63 = .ok (.putfield 38, 3) := dk_181 0 38 (dk_at dksX2_init_2 18 rfl rfl)
theorem dX2_init_66 : decode cX2_init 66 = .ok (.aload_n 0, 1) := dk_42 (dk_at dksX2_init_2 21 rfl rfl)
theorem dX2_init_67 : decode cX2_init 67 = .ok (.iconst 5, 1) := dk_8 (dk_at dksX2_init_2 22 rfl rfl)
theorem dX2_init_68 : decode cX2_init 68 = .ok (.putfield 41, 3) := dk_181 0 41 (dk_at dksX2_init_3 0 rfl rfl)
theorem dX2_init_71 : decode cX2_init 71 = .ok (.return_, 1) := dk_177 (dk_at dksX2_init_3 3 rfl rfl)
abbrev cX2_isForest : ByteArray := prog_5_method_28_code
def yX2_isForest : MethodName := ⟨RX2, "isForest", "()Z"⟩
def dkwX2_isForest_3 : List UInt8 := [172]
abbrev dktX2_isForest_3 : List UInt8 := dkwX2_isForest_3 ++ []
def dkwX2_isForest_2 : List UInt8 := [167, 255, 224, 42, 182, 1, 38, 42, 180, 0, 12, 182, 0, 45, 28, 100, 160, 0, 7, 4, 167, 0, 4, 3]
abbrev dktX2_isForest_2 : List UInt8 := dkwX2_isForest_2 ++ dktX2_isForest_3
def dkwX2_isForest_1 : List UInt8 := [162, 0, 27, 43, 29, 51, 154, 0, 15, 132, 2, 1, 43, 29, 4, 84, 42, 43, 182, 1, 6, 132, 3, 1]
abbrev dktX2_isForest_1 : List UInt8 := dkwX2_isForest_1 ++ dktX2_isForest_2
def dkwX2_isForest_0 : List UInt8 := [42, 180, 0, 12, 182, 0, 45, 188, 4, 76, 3, 61, 3, 62, 29, 42, 180, 0, 12, 182, 0, 45]
abbrev dktX2_isForest_0 : List UInt8 := dkwX2_isForest_0 ++ dktX2_isForest_1
theorem dksX2_isForest_0 : cX2_isForest.data.toList.drop 0 = dktX2_isForest_0 := by decide +kernel
theorem dksX2_isForest_1 : cX2_isForest.data.toList.drop 22 = dktX2_isForest_1 := dk_seg dksX2_isForest_0 22 rfl rfl
theorem dksX2_isForest_2 : cX2_isForest.data.toList.drop 46 = dktX2_isForest_2 := dk_seg dksX2_isForest_1 24 rfl rfl
theorem dksX2_isForest_3 : cX2_isForest.data.toList.drop 70 = dktX2_isForest_3 := dk_seg dksX2_isForest_2 24 rfl rfl
theorem dX2_isForest_0 : decode cX2_isForest 0 = .ok (.aload_n 0, 1) := dk_42 (dk_at dksX2_isForest_0 0 rfl rfl)
theorem dX2_isForest_1 : decode cX2_isForest 1 = .ok (.getfield 12, 3) := dk_180 0 12 (dk_at dksX2_isForest_0 1 rfl rfl)
theorem dX2_isForest_4 : decode cX2_isForest 4 = .ok (.invokevirtual 45, 3) := dk_182 0 45 (dk_at dksX2_isForest_0 4 rfl rfl)
theorem dX2_isForest_7 : decode cX2_isForest 7 = .ok (.newarray .boolean, 2) := dk_188_4 (dk_at dksX2_isForest_0 7 rfl rfl)
theorem dX2_isForest_9 : decode cX2_isForest 9 = .ok (.astore_n 1, 1) := dk_76 (dk_at dksX2_isForest_0 9 rfl rfl)
theorem dX2_isForest_10 : decode cX2_isForest 10 = .ok (.iconst 0, 1) := dk_3 (dk_at dksX2_isForest_0 10 rfl rfl)
theorem dX2_isForest_11 : decode cX2_isForest 11 = .ok (.istore_n 2, 1) := dk_61 (dk_at dksX2_isForest_0 11 rfl rfl)
theorem dX2_isForest_12 : decode cX2_isForest 12 = .ok (.iconst 0, 1) := dk_3 (dk_at dksX2_isForest_0 12 rfl rfl)
theorem dX2_isForest_13 : decode cX2_isForest 13 = .ok (.istore_n 3, 1) := dk_62 (dk_at dksX2_isForest_0 13 rfl rfl)
theorem dX2_isForest_14 : decode cX2_isForest 14 = .ok (.iload_n 3, 1) := dk_29 (dk_at dksX2_isForest_0 14 rfl rfl)
theorem dX2_isForest_15 : decode cX2_isForest 15 = .ok (.aload_n 0, 1) := dk_42 (dk_at dksX2_isForest_0 15 rfl rfl)
theorem dX2_isForest_16 : decode cX2_isForest 16 = .ok (.getfield 12, 3) := dk_180 0 12 (dk_at dksX2_isForest_0 16 rfl rfl)
theorem dX2_isForest_19 : decode cX2_isForest 19 = .ok (.invokevirtual 45, 3) := dk_182 0 45 (dk_at dksX2_isForest_0 19 rfl rfl)
theorem dX2_isForest_22 : decode cX2_isForest 22 = .ok (.if_icmp .ge 27, 3) := dk_162 0 27 (dk_at dksX2_isForest_1 0 rfl rfl)
theorem dX2_isForest_25 : decode cX2_isForest 25 = .ok (.aload_n 1, 1) := dk_43 (dk_at dksX2_isForest_1 3 rfl rfl)
theorem dX2_isForest_26 : decode cX2_isForest 26 = .ok (.iload_n 3, 1) := dk_29 (dk_at dksX2_isForest_1 4 rfl rfl)
theorem dX2_isForest_27 : decode cX2_isForest 27 = .ok (.baload, 1) := dk_51 (dk_at dksX2_isForest_1 5 rfl rfl)
theorem dX2_isForest_28 : decode cX2_isForest 28 = .ok (.ifCond .ne 15, 3) := dk_154 0 15 (dk_at dksX2_isForest_1 6 rfl rfl)
theorem dX2_isForest_31 : decode cX2_isForest 31 = .ok (.iinc 2 1, 3) := dk_132 2 1 (dk_at dksX2_isForest_1 9 rfl rfl)
theorem dX2_isForest_34 : decode cX2_isForest 34 = .ok (.aload_n 1, 1) := dk_43 (dk_at dksX2_isForest_1 12 rfl rfl)
theorem dX2_isForest_35 : decode cX2_isForest 35 = .ok (.iload_n 3, 1) := dk_29 (dk_at dksX2_isForest_1 13 rfl rfl)
theorem dX2_isForest_36 : decode cX2_isForest 36 = .ok (.iconst 1, 1) := dk_4 (dk_at dksX2_isForest_1 14 rfl rfl)
theorem dX2_isForest_37 : decode cX2_isForest 37 = .ok (.bastore, 1) := dk_84 (dk_at dksX2_isForest_1 15 rfl rfl)
theorem dX2_isForest_38 : decode cX2_isForest 38 = .ok (.aload_n 0, 1) := dk_42 (dk_at dksX2_isForest_1 16 rfl rfl)
theorem dX2_isForest_39 : decode cX2_isForest 39 = .ok (.aload_n 1, 1) := dk_43 (dk_at dksX2_isForest_1 17 rfl rfl)
theorem dX2_isForest_40 : decode cX2_isForest 40 = .ok (.invokevirtual 262, 3) := dk_182 1 6 (dk_at dksX2_isForest_1 18 rfl rfl)
theorem dX2_isForest_43 : decode cX2_isForest 43 = .ok (.iinc 3 1, 3) := dk_132 3 1 (dk_at dksX2_isForest_1 21 rfl rfl)
theorem dX2_isForest_46 : decode cX2_isForest 46 = .ok (.goto (-32), 3) := dk_167 255 224 (dk_at dksX2_isForest_2 0 rfl rfl)
theorem dX2_isForest_49 : decode cX2_isForest 49 = .ok (.aload_n 0, 1) := dk_42 (dk_at dksX2_isForest_2 3 rfl rfl)
theorem dX2_isForest_50 : decode cX2_isForest 50 = .ok (.invokevirtual 294, 3) := dk_182 1 38 (dk_at dksX2_isForest_2 4 rfl rfl)
theorem dX2_isForest_53 : decode cX2_isForest 53 = .ok (.aload_n 0, 1) := dk_42 (dk_at dksX2_isForest_2 7 rfl rfl)
theorem dX2_isForest_54 : decode cX2_isForest 54 = .ok (.getfield 12, 3) := dk_180 0 12 (dk_at dksX2_isForest_2 8 rfl rfl)
theorem dX2_isForest_57 : decode cX2_isForest 57 = .ok (.invokevirtual 45, 3) := dk_182 0 45 (dk_at dksX2_isForest_2 11 rfl rfl)
theorem dX2_isForest_60 : decode cX2_isForest 60 = .ok (.iload_n 2, 1) := dk_28 (dk_at dksX2_isForest_2 14 rfl rfl)
theorem dX2_isForest_61 : decode cX2_isForest 61 = .ok (.isub, 1) := dk_100 (dk_at dksX2_isForest_2 15 rfl rfl)
theorem dX2_isForest_62 : decode cX2_isForest 62 = .ok (.if_icmp .ne 7, 3) := dk_160 0 7 (dk_at dksX2_isForest_2 16 rfl rfl)
theorem dX2_isForest_65 : decode cX2_isForest 65 = .ok (.iconst 1, 1) := dk_4 (dk_at dksX2_isForest_2 19 rfl rfl)
theorem dX2_isForest_66 : decode cX2_isForest 66 = .ok (.goto 4, 3) := dk_167 0 4 (dk_at dksX2_isForest_2 20 rfl rfl)
theorem dX2_isForest_69 : decode cX2_isForest 69 = .ok (.iconst 0, 1) := dk_3 (dk_at dksX2_isForest_2 23 rfl rfl)
theorem dX2_isForest_70 : decode cX2_isForest 70 = .ok (.ireturn, 1) := dk_172 (dk_at dksX2_isForest_3 0 rfl rfl)
abbrev cX2_spread : ByteArray := prog_5_method_18_code
def yX2_spread : MethodName := ⟨RX2, "spread", "([Z)V"⟩
def dkwX2_spread_3 : List UInt8 := [25, 4, 180, 0, 209, 4, 84, 4, 61, 132, 3, 1, 167, 255, 186, 167, 255, 175, 177]
abbrev dktX2_spread_3 : List UInt8 := dkwX2_spread_3 ++ []
def dkwX2_spread_2 : List UInt8 := [180, 0, 206, 51, 43, 25, 4, 180, 0, 209, 51, 159, 0, 21, 43, 25, 4, 180, 0, 206, 4, 84, 43]
abbrev dktX2_spread_2 : List UInt8 := dkwX2_spread_2 ++ dktX2_spread_3
def dkwX2_spread_1 : List UInt8 := [180, 0, 18, 29, 182, 0, 49, 192, 0, 63, 58, 4, 25, 4, 182, 1, 2, 153, 0, 38, 43, 25, 4]
abbrev dktX2_spread_1 : List UInt8 := dkwX2_spread_1 ++ dktX2_spread_2
def dkwX2_spread_0 : List UInt8 := [4, 61, 28, 153, 0, 83, 3, 61, 3, 62, 29, 42, 180, 0, 18, 182, 0, 45, 162, 0, 65, 42]
abbrev dktX2_spread_0 : List UInt8 := dkwX2_spread_0 ++ dktX2_spread_1
theorem dksX2_spread_0 : cX2_spread.data.toList.drop 0 = dktX2_spread_0 := by decide +kernel
theorem dksX2_spread_1 : cX2_spread.data.toList.drop 22 = dktX2_spread_1 := dk_seg dksX2_spread_0 22 rfl rfl
theorem dksX2_spread_2 : cX2_spread.data.toList.drop 45 = dktX2_spread_2 := dk_seg dksX2_spread_1 23 rfl rfl
theorem dksX2_spread_3 : cX2_spread.data.toList.drop 68 = dktX2_spread_3 := dk_seg dksX2_spread_2 23 rfl rfl
theorem dX2_spread_0 : decode cX2_spread 0 = .ok (.iconst 1, 1) := dk_4 (dk_at dksX2_spread_0 0 rfl rfl)
theorem dX2_spread_1 : decode cX2_spread 1 = .ok (.istore_n 2, 1) := dk_61 (dk_at dksX2_spread_0 1 rfl rfl)
theorem dX2_spread_2 : decode cX2_spread 2 = .ok (.iload_n 2, 1) := dk_28 (dk_at dksX2_spread_0 2 rfl rfl)
theorem dX2_spread_3 : decode cX2_spread 3 = .ok (.ifCond .eq 83, 3) := dk_153 0 83 (dk_at dksX2_spread_0 3 rfl rfl)
theorem dX2_spread_6 : decode cX2_spread 6 = .ok (.iconst 0, 1) := dk_3 (dk_at dksX2_spread_0 6 rfl rfl)
theorem dX2_spread_7 : decode cX2_spread 7 = .ok (.istore_n 2, 1) := dk_61 (dk_at dksX2_spread_0 7 rfl rfl)
theorem dX2_spread_8 : decode cX2_spread 8 = .ok (.iconst 0, 1) := dk_3 (dk_at dksX2_spread_0 8 rfl rfl)
theorem dX2_spread_9 : decode cX2_spread 9 = .ok (.istore_n 3, 1) := dk_62 (dk_at dksX2_spread_0 9 rfl rfl)
theorem dX2_spread_10 : decode cX2_spread 10 = .ok (.iload_n 3, 1) := dk_29 (dk_at dksX2_spread_0 10 rfl rfl)
theorem dX2_spread_11 : decode cX2_spread 11 = .ok (.aload_n 0, 1) := dk_42 (dk_at dksX2_spread_0 11 rfl rfl)
theorem dX2_spread_12 : decode cX2_spread 12 = .ok (.getfield 18, 3) := dk_180 0 18 (dk_at dksX2_spread_0 12 rfl rfl)
theorem dX2_spread_15 : decode cX2_spread 15 = .ok (.invokevirtual 45, 3) := dk_182 0 45 (dk_at dksX2_spread_0 15 rfl rfl)
theorem dX2_spread_18 : decode cX2_spread 18 = .ok (.if_icmp .ge 65, 3) := dk_162 0 65 (dk_at dksX2_spread_0 18 rfl rfl)
theorem dX2_spread_21 : decode cX2_spread 21 = .ok (.aload_n 0, 1) := dk_42 (dk_at dksX2_spread_0 21 rfl rfl)
theorem dX2_spread_22 : decode cX2_spread 22 = .ok (.getfield 18, 3) := dk_180 0 18 (dk_at dksX2_spread_1 0 rfl rfl)
theorem dX2_spread_25 : decode cX2_spread 25 = .ok (.iload_n 3, 1) := dk_29 (dk_at dksX2_spread_1 3 rfl rfl)
theorem dX2_spread_26 : decode cX2_spread 26 = .ok (.invokevirtual 49, 3) := dk_182 0 49 (dk_at dksX2_spread_1 4 rfl rfl)
theorem dX2_spread_29 : decode cX2_spread 29 = .ok (.checkcast 63, 3) := dk_192 0 63 (dk_at dksX2_spread_1 7 rfl rfl)
theorem dX2_spread_32 : decode cX2_spread 32 = .ok (.astore 4, 2) := dk_58 4 (dk_at dksX2_spread_1 10 rfl rfl)
theorem dX2_spread_34 : decode cX2_spread 34 = .ok (.aload 4, 2) := dk_25 4 (dk_at dksX2_spread_1 12 rfl rfl)
theorem dX2_spread_36 : decode cX2_spread 36 = .ok (.invokevirtual 258, 3) := dk_182 1 2 (dk_at dksX2_spread_1 14 rfl rfl)
theorem dX2_spread_39 : decode cX2_spread 39 = .ok (.ifCond .eq 38, 3) := dk_153 0 38 (dk_at dksX2_spread_1 17 rfl rfl)
theorem dX2_spread_42 : decode cX2_spread 42 = .ok (.aload_n 1, 1) := dk_43 (dk_at dksX2_spread_1 20 rfl rfl)
theorem dX2_spread_43 : decode cX2_spread 43 = .ok (.aload 4, 2) := dk_25 4 (dk_at dksX2_spread_1 21 rfl rfl)
theorem dX2_spread_45 : decode cX2_spread 45 = .ok (.getfield 206, 3) := dk_180 0 206 (dk_at dksX2_spread_2 0 rfl rfl)
theorem dX2_spread_48 : decode cX2_spread 48 = .ok (.baload, 1) := dk_51 (dk_at dksX2_spread_2 3 rfl rfl)
theorem dX2_spread_49 : decode cX2_spread 49 = .ok (.aload_n 1, 1) := dk_43 (dk_at dksX2_spread_2 4 rfl rfl)
theorem dX2_spread_50 : decode cX2_spread 50 = .ok (.aload 4, 2) := dk_25 4 (dk_at dksX2_spread_2 5 rfl rfl)
theorem dX2_spread_52 : decode cX2_spread 52 = .ok (.getfield 209, 3) := dk_180 0 209 (dk_at dksX2_spread_2 7 rfl rfl)
theorem dX2_spread_55 : decode cX2_spread 55 = .ok (.baload, 1) := dk_51 (dk_at dksX2_spread_2 10 rfl rfl)
theorem dX2_spread_56 : decode cX2_spread 56 = .ok (.if_icmp .eq 21, 3) := dk_159 0 21 (dk_at dksX2_spread_2 11 rfl rfl)
theorem dX2_spread_59 : decode cX2_spread 59 = .ok (.aload_n 1, 1) := dk_43 (dk_at dksX2_spread_2 14 rfl rfl)
theorem dX2_spread_60 : decode cX2_spread 60 = .ok (.aload 4, 2) := dk_25 4 (dk_at dksX2_spread_2 15 rfl rfl)
theorem dX2_spread_62 : decode cX2_spread 62 = .ok (.getfield 206, 3) := dk_180 0 206 (dk_at dksX2_spread_2 17 rfl rfl)
theorem dX2_spread_65 : decode cX2_spread 65 = .ok (.iconst 1, 1) := dk_4 (dk_at dksX2_spread_2 20 rfl rfl)
theorem dX2_spread_66 : decode cX2_spread 66 = .ok (.bastore, 1) := dk_84 (dk_at dksX2_spread_2 21 rfl rfl)
theorem dX2_spread_67 : decode cX2_spread 67 = .ok (.aload_n 1, 1) := dk_43 (dk_at dksX2_spread_2 22 rfl rfl)
theorem dX2_spread_68 : decode cX2_spread 68 = .ok (.aload 4, 2) := dk_25 4 (dk_at dksX2_spread_3 0 rfl rfl)
theorem dX2_spread_70 : decode cX2_spread 70 = .ok (.getfield 209, 3) := dk_180 0 209 (dk_at dksX2_spread_3 2 rfl rfl)
theorem dX2_spread_73 : decode cX2_spread 73 = .ok (.iconst 1, 1) := dk_4 (dk_at dksX2_spread_3 5 rfl rfl)
theorem dX2_spread_74 : decode cX2_spread 74 = .ok (.bastore, 1) := dk_84 (dk_at dksX2_spread_3 6 rfl rfl)
theorem dX2_spread_75 : decode cX2_spread 75 = .ok (.iconst 1, 1) := dk_4 (dk_at dksX2_spread_3 7 rfl rfl)
theorem dX2_spread_76 : decode cX2_spread 76 = .ok (.istore_n 2, 1) := dk_61 (dk_at dksX2_spread_3 8 rfl rfl)
theorem dX2_spread_77 : decode cX2_spread 77 = .ok (.iinc 3 1, 3) := dk_132 3 1 (dk_at dksX2_spread_3 9 rfl rfl)
theorem dX2_spread_80 : decode cX2_spread 80 = .ok (.goto (-70), 3) := dk_167 255 186 (dk_at dksX2_spread_3 12 rfl rfl)
theorem dX2_spread_83 : decode cX2_spread 83 = .ok (.goto (-81), 3) := dk_167 255 175 (dk_at dksX2_spread_3 15 rfl rfl)
theorem dX2_spread_86 : decode cX2_spread 86 = .ok (.return_, 1) := dk_177 (dk_at dksX2_spread_3 18 rfl rfl)
abbrev cX2_carrying : ByteArray := prog_5_method_25_code
def yX2_carrying : MethodName := ⟨RX2, "carrying", "()I"⟩
def dkwX2_carrying_1 : List UInt8 := [192, 0, 63, 182, 1, 2, 153, 0, 7, 4, 167, 0, 4, 3, 96, 60, 132, 2, 1, 167, 255, 217, 27, 172]
abbrev dktX2_carrying_1 : List UInt8 := dkwX2_carrying_1 ++ []
def dkwX2_carrying_0 : List UInt8 := [3, 60, 3, 61, 28, 42, 180, 0, 18, 182, 0, 45, 162, 0, 34, 27, 42, 180, 0, 18, 28, 182, 0, 49]
abbrev dktX2_carrying_0 : List UInt8 := dkwX2_carrying_0 ++ dktX2_carrying_1
theorem dksX2_carrying_0 : cX2_carrying.data.toList.drop 0 = dktX2_carrying_0 := by decide +kernel
theorem dksX2_carrying_1 : cX2_carrying.data.toList.drop 24 = dktX2_carrying_1 := dk_seg dksX2_carrying_0 24 rfl rfl
theorem dX2_carrying_0 : decode cX2_carrying 0 = .ok (.iconst 0, 1) := dk_3 (dk_at dksX2_carrying_0 0 rfl rfl)
theorem dX2_carrying_1 : decode cX2_carrying 1 = .ok (.istore_n 1, 1) := dk_60 (dk_at dksX2_carrying_0 1 rfl rfl)
theorem dX2_carrying_2 : decode cX2_carrying 2 = .ok (.iconst 0, 1) := dk_3 (dk_at dksX2_carrying_0 2 rfl rfl)
theorem dX2_carrying_3 : decode cX2_carrying 3 = .ok (.istore_n 2, 1) := dk_61 (dk_at dksX2_carrying_0 3 rfl rfl)
theorem dX2_carrying_4 : decode cX2_carrying 4 = .ok (.iload_n 2, 1) := dk_28 (dk_at dksX2_carrying_0 4 rfl rfl)
theorem dX2_carrying_5 : decode cX2_carrying 5 = .ok (.aload_n 0, 1) := dk_42 (dk_at dksX2_carrying_0 5 rfl rfl)
theorem dX2_carrying_6 : decode cX2_carrying 6 = .ok (.getfield 18, 3) := dk_180 0 18 (dk_at dksX2_carrying_0 6 rfl rfl)
theorem dX2_carrying_9 : decode cX2_carrying 9 = .ok (.invokevirtual 45, 3) := dk_182 0 45 (dk_at dksX2_carrying_0 9 rfl rfl)
theorem dX2_carrying_12 : decode cX2_carrying 12 = .ok (.if_icmp .ge 34, 3) := dk_162 0 34 (dk_at dksX2_carrying_0 12 rfl rfl)
theorem dX2_carrying_15 : decode cX2_carrying 15 = .ok (.iload_n 1, 1) := dk_27 (dk_at dksX2_carrying_0 15 rfl rfl)
theorem dX2_carrying_16 : decode cX2_carrying 16 = .ok (.aload_n 0, 1) := dk_42 (dk_at dksX2_carrying_0 16 rfl rfl)
theorem dX2_carrying_17 : decode cX2_carrying 17 = .ok (.getfield 18, 3) := dk_180 0 18 (dk_at dksX2_carrying_0 17 rfl rfl)
theorem dX2_carrying_20 : decode cX2_carrying 20 = .ok (.iload_n 2, 1) := dk_28 (dk_at dksX2_carrying_0 20 rfl rfl)
theorem dX2_carrying_21 : decode cX2_carrying 21 = .ok (.invokevirtual 49, 3) := dk_182 0 49 (dk_at dksX2_carrying_0 21 rfl rfl)
theorem dX2_carrying_24 : decode cX2_carrying 24 = .ok (.checkcast 63, 3) := dk_192 0 63 (dk_at dksX2_carrying_1 0 rfl rfl)
theorem dX2_carrying_27 : decode cX2_carrying 27 = .ok (.invokevirtual 258, 3) := dk_182 1 2 (dk_at dksX2_carrying_1 3 rfl rfl)
theorem dX2_carrying_30 : decode cX2_carrying 30 = .ok (.ifCond .eq 7, 3) := dk_153 0 7 (dk_at dksX2_carrying_1 6 rfl rfl)
theorem dX2_carrying_33 : decode cX2_carrying 33 = .ok (.iconst 1, 1) := dk_4 (dk_at dksX2_carrying_1 9 rfl rfl)
theorem dX2_carrying_34 : decode cX2_carrying 34 = .ok (.goto 4, 3) := dk_167 0 4 (dk_at dksX2_carrying_1 10 rfl rfl)
theorem dX2_carrying_37 : decode cX2_carrying 37 = .ok (.iconst 0, 1) := dk_3 (dk_at dksX2_carrying_1 13 rfl rfl)
theorem dX2_carrying_38 : decode cX2_carrying 38 = .ok (.iadd, 1) := dk_96 (dk_at dksX2_carrying_1 14 rfl rfl)
theorem dX2_carrying_39 : decode cX2_carrying 39 = .ok (.istore_n 1, 1) := dk_60 (dk_at dksX2_carrying_1 15 rfl rfl)
theorem dX2_carrying_40 : decode cX2_carrying 40 = .ok (.iinc 2 1, 3) := dk_132 2 1 (dk_at dksX2_carrying_1 16 rfl rfl)
theorem dX2_carrying_43 : decode cX2_carrying 43 = .ok (.goto (-39), 3) := dk_167 255 217 (dk_at dksX2_carrying_1 19 rfl rfl)
theorem dX2_carrying_46 : decode cX2_carrying 46 = .ok (.iload_n 1, 1) := dk_27 (dk_at dksX2_carrying_1 22 rfl rfl)
theorem dX2_carrying_47 : decode cX2_carrying 47 = .ok (.ireturn, 1) := dk_172 (dk_at dksX2_carrying_1 23 rfl rfl)
abbrev cX2_addLink : ByteArray := prog_5_method_9_code
def yX2_addLink : MethodName := ⟨RX2, "addLink", "(III)I"⟩
def dkwX2_addLink_4 : List UInt8 := [42, 180, 0, 18, 182, 0, 45, 4, 100, 172]
abbrev dktX2_addLink_4 : List UInt8 := dkwX2_addLink_4 ++ []
def dkwX2_addLink_3 : List UInt8 := [18, 147, 184, 0, 148, 42, 180, 0, 18, 187, 0, 63, 89, 27, 28, 29, 183, 0, 151, 182, 0, 59, 54, 4]
abbrev dktX2_addLink_3 : List UInt8 := dkwX2_addLink_3 ++ dktX2_addLink_4
def dkwX2_addLink_2 : List UInt8 := [3, 18, 118, 184, 0, 127, 42, 180, 0, 18, 182, 0, 45, 16, 16, 162, 0, 7, 4, 167, 0, 4, 3]
abbrev dktX2_addLink_2 : List UInt8 := dkwX2_addLink_2 ++ dktX2_addLink_3
def dkwX2_addLink_1 : List UInt8 := [184, 0, 111, 27, 28, 159, 0, 19, 29, 133, 10, 20, 0, 145, 184, 0, 101, 153, 0, 7, 4, 167, 0, 4]
abbrev dktX2_addLink_1 : List UInt8 := dkwX2_addLink_1 ++ dktX2_addLink_2
def dkwX2_addLink_0 : List UInt8 := [42, 27, 182, 0, 105, 153, 0, 15, 42, 28, 182, 0, 105, 153, 0, 7, 4, 167, 0, 4, 3, 18, 109]
abbrev dktX2_addLink_0 : List UInt8 := dkwX2_addLink_0 ++ dktX2_addLink_1
theorem dksX2_addLink_0 : cX2_addLink.data.toList.drop 0 = dktX2_addLink_0 := by decide +kernel
theorem dksX2_addLink_1 : cX2_addLink.data.toList.drop 23 = dktX2_addLink_1 := dk_seg dksX2_addLink_0 23 rfl rfl
theorem dksX2_addLink_2 : cX2_addLink.data.toList.drop 47 = dktX2_addLink_2 := dk_seg dksX2_addLink_1 24 rfl rfl
theorem dksX2_addLink_3 : cX2_addLink.data.toList.drop 70 = dktX2_addLink_3 := dk_seg dksX2_addLink_2 23 rfl rfl
theorem dksX2_addLink_4 : cX2_addLink.data.toList.drop 94 = dktX2_addLink_4 := dk_seg dksX2_addLink_3 24 rfl rfl
theorem dX2_addLink_0 : decode cX2_addLink 0 = .ok (.aload_n 0, 1) := dk_42 (dk_at dksX2_addLink_0 0 rfl rfl)
theorem dX2_addLink_1 : decode cX2_addLink 1 = .ok (.iload_n 1, 1) := dk_27 (dk_at dksX2_addLink_0 1 rfl rfl)
theorem dX2_addLink_2 : decode cX2_addLink 2 = .ok (.invokevirtual 105, 3) := dk_182 0 105 (dk_at dksX2_addLink_0 2 rfl rfl)
theorem dX2_addLink_5 : decode cX2_addLink 5 = .ok (.ifCond .eq 15, 3) := dk_153 0 15 (dk_at dksX2_addLink_0 5 rfl rfl)
theorem dX2_addLink_8 : decode cX2_addLink 8 = .ok (.aload_n 0, 1) := dk_42 (dk_at dksX2_addLink_0 8 rfl rfl)
theorem dX2_addLink_9 : decode cX2_addLink 9 = .ok (.iload_n 2, 1) := dk_28 (dk_at dksX2_addLink_0 9 rfl rfl)
theorem dX2_addLink_10 : decode cX2_addLink 10 = .ok (.invokevirtual 105, 3) := dk_182 0 105 (dk_at dksX2_addLink_0 10 rfl rfl)
theorem dX2_addLink_13 : decode cX2_addLink 13 = .ok (.ifCond .eq 7, 3) := dk_153 0 7 (dk_at dksX2_addLink_0 13 rfl rfl)
theorem dX2_addLink_16 : decode cX2_addLink 16 = .ok (.iconst 1, 1) := dk_4 (dk_at dksX2_addLink_0 16 rfl rfl)
theorem dX2_addLink_17 : decode cX2_addLink 17 = .ok (.goto 4, 3) := dk_167 0 4 (dk_at dksX2_addLink_0 17 rfl rfl)
theorem dX2_addLink_20 : decode cX2_addLink 20 = .ok (.iconst 0, 1) := dk_3 (dk_at dksX2_addLink_0 20 rfl rfl)
theorem dX2_addLink_21 : decode cX2_addLink 21 = .ok (.ldc 109, 2) := dk_18 109 (dk_at dksX2_addLink_0 21 rfl rfl)
theorem dX2_addLink_23 : decode cX2_addLink 23 = .ok (.invokestatic 111, 3) := dk_184 0 111 (dk_at dksX2_addLink_1 0 rfl rfl)
theorem dX2_addLink_26 : decode cX2_addLink 26 = .ok (.iload_n 1, 1) := dk_27 (dk_at dksX2_addLink_1 3 rfl rfl)
theorem dX2_addLink_27 : decode cX2_addLink 27 = .ok (.iload_n 2, 1) := dk_28 (dk_at dksX2_addLink_1 4 rfl rfl)
theorem dX2_addLink_28 : decode cX2_addLink 28 = .ok (.if_icmp .eq 19, 3) := dk_159 0 19 (dk_at dksX2_addLink_1 5 rfl rfl)
theorem dX2_addLink_31 : decode cX2_addLink 31 = .ok (.iload_n 3, 1) := dk_29 (dk_at dksX2_addLink_1 8 rfl rfl)
theorem dX2_addLink_32 : decode cX2_addLink 32 = .ok (.i2l, 1) := dk_133 (dk_at dksX2_addLink_1 9 rfl rfl)
theorem dX2_addLink_33 : decode cX2_addLink 33 = .ok (.lconst 1, 1) := dk_10 (dk_at dksX2_addLink_1 10 rfl rfl)
theorem dX2_addLink_34 : decode cX2_addLink 34 = .ok (.ldc2_w 145, 3) := dk_20 0 145 (dk_at dksX2_addLink_1 11 rfl rfl)
theorem dX2_addLink_37 : decode cX2_addLink 37 = .ok (.invokestatic 101, 3) := dk_184 0 101 (dk_at dksX2_addLink_1 14 rfl rfl)
theorem dX2_addLink_40 : decode cX2_addLink 40 = .ok (.ifCond .eq 7, 3) := dk_153 0 7 (dk_at dksX2_addLink_1 17 rfl rfl)
theorem dX2_addLink_43 : decode cX2_addLink 43 = .ok (.iconst 1, 1) := dk_4 (dk_at dksX2_addLink_1 20 rfl rfl)
theorem dX2_addLink_44 : decode cX2_addLink 44 = .ok (.goto 4, 3) := dk_167 0 4 (dk_at dksX2_addLink_1 21 rfl rfl)
theorem dX2_addLink_47 : decode cX2_addLink 47 = .ok (.iconst 0, 1) := dk_3 (dk_at dksX2_addLink_2 0 rfl rfl)
theorem dX2_addLink_48 : decode cX2_addLink 48 = .ok (.ldc 118, 2) := dk_18 118 (dk_at dksX2_addLink_2 1 rfl rfl)
theorem dX2_addLink_50 : decode cX2_addLink 50 = .ok (.invokestatic 127, 3) := dk_184 0 127 (dk_at dksX2_addLink_2 3 rfl rfl)
theorem dX2_addLink_53 : decode cX2_addLink 53 = .ok (.aload_n 0, 1) := dk_42 (dk_at dksX2_addLink_2 6 rfl rfl)
theorem dX2_addLink_54 : decode cX2_addLink 54 = .ok (.getfield 18, 3) := dk_180 0 18 (dk_at dksX2_addLink_2 7 rfl rfl)
theorem dX2_addLink_57 : decode cX2_addLink 57 = .ok (.invokevirtual 45, 3) := dk_182 0 45 (dk_at dksX2_addLink_2 10 rfl rfl)
theorem dX2_addLink_60 : decode cX2_addLink 60 = .ok (.bipush 16, 2) := dk_16 16 (dk_at dksX2_addLink_2 13 rfl rfl)
theorem dX2_addLink_62 : decode cX2_addLink 62 = .ok (.if_icmp .ge 7, 3) := dk_162 0 7 (dk_at dksX2_addLink_2 15 rfl rfl)
theorem dX2_addLink_65 : decode cX2_addLink 65 = .ok (.iconst 1, 1) := dk_4 (dk_at dksX2_addLink_2 18 rfl rfl)
theorem dX2_addLink_66 : decode cX2_addLink 66 = .ok (.goto 4, 3) := dk_167 0 4 (dk_at dksX2_addLink_2 19 rfl rfl)
theorem dX2_addLink_69 : decode cX2_addLink 69 = .ok (.iconst 0, 1) := dk_3 (dk_at dksX2_addLink_2 22 rfl rfl)
theorem dX2_addLink_70 : decode cX2_addLink 70 = .ok (.ldc 147, 2) := dk_18 147 (dk_at dksX2_addLink_3 0 rfl rfl)
theorem dX2_addLink_72 : decode cX2_addLink 72 = .ok (.invokestatic 148, 3) := dk_184 0 148 (dk_at dksX2_addLink_3 2 rfl rfl)
theorem dX2_addLink_75 : decode cX2_addLink 75 = .ok (.aload_n 0, 1) := dk_42 (dk_at dksX2_addLink_3 5 rfl rfl)
theorem dX2_addLink_76 : decode cX2_addLink 76 = .ok (.getfield 18, 3) := dk_180 0 18 (dk_at dksX2_addLink_3 6 rfl rfl)
theorem dX2_addLink_79 : decode cX2_addLink 79 = .ok (.new 63, 3) := dk_187 0 63 (dk_at dksX2_addLink_3 9 rfl rfl)
theorem dX2_addLink_82 : decode cX2_addLink 82 = .ok (.dup, 1) := dk_89 (dk_at dksX2_addLink_3 12 rfl rfl)
theorem dX2_addLink_83 : decode cX2_addLink 83 = .ok (.iload_n 1, 1) := dk_27 (dk_at dksX2_addLink_3 13 rfl rfl)
theorem dX2_addLink_84 : decode cX2_addLink 84 = .ok (.iload_n 2, 1) := dk_28 (dk_at dksX2_addLink_3 14 rfl rfl)
theorem dX2_addLink_85 : decode cX2_addLink 85 = .ok (.iload_n 3, 1) := dk_29 (dk_at dksX2_addLink_3 15 rfl rfl)
theorem dX2_addLink_86 : decode cX2_addLink 86 = .ok (.invokespecial 151, 3) := dk_183 0 151 (dk_at dksX2_addLink_3 16 rfl rfl)
theorem dX2_addLink_89 : decode cX2_addLink 89 = .ok (.invokevirtual 59, 3) := dk_182 0 59 (dk_at dksX2_addLink_3 19 rfl rfl)
theorem dX2_addLink_92 : decode cX2_addLink 92 = .ok (.istore 4, 2) := dk_54 4 (dk_at dksX2_addLink_3 22 rfl rfl)
theorem dX2_addLink_94 : decode cX2_addLink 94 = .ok (.aload_n 0, 1) := dk_42 (dk_at dksX2_addLink_4 0 rfl rfl)
theorem dX2_addLink_95 : decode cX2_addLink 95 = .ok (.getfield 18, 3) := dk_180 0 18 (dk_at dksX2_addLink_4 1 rfl rfl)
theorem dX2_addLink_98 : decode cX2_addLink 98 = .ok (.invokevirtual 45, 3) := dk_182 0 45 (dk_at dksX2_addLink_4 4 rfl rfl)
theorem dX2_addLink_101 : decode cX2_addLink 101 = .ok (.iconst 1, 1) := dk_4 (dk_at dksX2_addLink_4 7 rfl rfl)
theorem dX2_addLink_102 : decode cX2_addLink 102 = .ok (.isub, 1) := dk_100 (dk_at dksX2_addLink_4 8 rfl rfl)
theorem dX2_addLink_103 : decode cX2_addLink 103 = .ok (.ireturn, 1) := dk_172 (dk_at dksX2_addLink_4 9 rfl rfl)
abbrev cX2_isBridge : ByteArray := prog_5_method_4_code
def yX2_isBridge : MethodName := ⟨RX2, "isBridge", "(I)Z"⟩
def dkwX2_isBridge_0 : List UInt8 := [27, 133, 9, 42, 180, 0, 12, 182, 0, 45, 4, 100, 133, 184, 0, 101, 172]
abbrev dktX2_isBridge_0 : List UInt8 := dkwX2_isBridge_0 ++ []
theorem dksX2_isBridge_0 : cX2_isBridge.data.toList.drop 0 = dktX2_isBridge_0 := by decide +kernel
theorem dX2_isBridge_0 : decode cX2_isBridge 0 = .ok (.iload_n 1, 1) := dk_27 (dk_at dksX2_isBridge_0 0 rfl rfl)
theorem dX2_isBridge_1 : decode cX2_isBridge 1 = .ok (.i2l, 1) := dk_133 (dk_at dksX2_isBridge_0 1 rfl rfl)
theorem dX2_isBridge_2 : decode cX2_isBridge 2 = .ok (.lconst 0, 1) := dk_9 (dk_at dksX2_isBridge_0 2 rfl rfl)
theorem dX2_isBridge_3 : decode cX2_isBridge 3 = .ok (.aload_n 0, 1) := dk_42 (dk_at dksX2_isBridge_0 3 rfl rfl)
theorem dX2_isBridge_4 : decode cX2_isBridge 4 = .ok (.getfield 12, 3) := dk_180 0 12 (dk_at dksX2_isBridge_0 4 rfl rfl)
theorem dX2_isBridge_7 : decode cX2_isBridge 7 = .ok (.invokevirtual 45, 3) := dk_182 0 45 (dk_at dksX2_isBridge_0 7 rfl rfl)
theorem dX2_isBridge_10 : decode cX2_isBridge 10 = .ok (.iconst 1, 1) := dk_4 (dk_at dksX2_isBridge_0 10 rfl rfl)
theorem dX2_isBridge_11 : decode cX2_isBridge 11 = .ok (.isub, 1) := dk_100 (dk_at dksX2_isBridge_0 11 rfl rfl)
theorem dX2_isBridge_12 : decode cX2_isBridge 12 = .ok (.i2l, 1) := dk_133 (dk_at dksX2_isBridge_0 12 rfl rfl)
theorem dX2_isBridge_13 : decode cX2_isBridge 13 = .ok (.invokestatic 101, 3) := dk_184 0 101 (dk_at dksX2_isBridge_0 13 rfl rfl)
theorem dX2_isBridge_16 : decode cX2_isBridge 16 = .ok (.ireturn, 1) := dk_172 (dk_at dksX2_isBridge_0 16 rfl rfl)
abbrev cX2_bid : ByteArray := prog_5_method_13_code
def yX2_bid : MethodName := ⟨RX2, "bid", "(III)I"⟩
def dkwX2_bid_3 : List UInt8 := [192, 0, 63, 180, 0, 182, 27, 29, 79, 21, 4, 172]
abbrev dktX2_bid_3 : List UInt8 := dkwX2_bid_3 ++ []
def dkwX2_bid_2 : List UInt8 := [28, 182, 0, 49, 192, 0, 63, 180, 0, 182, 27, 46, 54, 4, 42, 180, 0, 18, 28, 182, 0, 49]
abbrev dktX2_bid_2 : List UInt8 := dkwX2_bid_2 ++ dktX2_bid_3
def dkwX2_bid_1 : List UInt8 := [3, 18, 177, 184, 0, 111, 29, 133, 9, 20, 0, 179, 184, 0, 101, 18, 181, 184, 0, 127, 42, 180, 0, 18]
abbrev dktX2_bid_1 : List UInt8 := dkwX2_bid_1 ++ dktX2_bid_2
def dkwX2_bid_0 : List UInt8 := [27, 133, 9, 20, 0, 175, 184, 0, 101, 153, 0, 15, 42, 28, 182, 0, 115, 153, 0, 7, 4, 167, 0, 4]
abbrev dktX2_bid_0 : List UInt8 := dkwX2_bid_0 ++ dktX2_bid_1
theorem dksX2_bid_0 : cX2_bid.data.toList.drop 0 = dktX2_bid_0 := by decide +kernel
theorem dksX2_bid_1 : cX2_bid.data.toList.drop 24 = dktX2_bid_1 := dk_seg dksX2_bid_0 24 rfl rfl
theorem dksX2_bid_2 : cX2_bid.data.toList.drop 48 = dktX2_bid_2 := dk_seg dksX2_bid_1 24 rfl rfl
theorem dksX2_bid_3 : cX2_bid.data.toList.drop 70 = dktX2_bid_3 := dk_seg dksX2_bid_2 22 rfl rfl
theorem dX2_bid_0 : decode cX2_bid 0 = .ok (.iload_n 1, 1) := dk_27 (dk_at dksX2_bid_0 0 rfl rfl)
theorem dX2_bid_1 : decode cX2_bid 1 = .ok (.i2l, 1) := dk_133 (dk_at dksX2_bid_0 1 rfl rfl)
theorem dX2_bid_2 : decode cX2_bid 2 = .ok (.lconst 0, 1) := dk_9 (dk_at dksX2_bid_0 2 rfl rfl)
theorem dX2_bid_3 : decode cX2_bid 3 = .ok (.ldc2_w 175, 3) := dk_20 0 175 (dk_at dksX2_bid_0 3 rfl rfl)
theorem dX2_bid_6 : decode cX2_bid 6 = .ok (.invokestatic 101, 3) := dk_184 0 101 (dk_at dksX2_bid_0 6 rfl rfl)
theorem dX2_bid_9 : decode cX2_bid 9 = .ok (.ifCond .eq 15, 3) := dk_153 0 15 (dk_at dksX2_bid_0 9 rfl rfl)
theorem dX2_bid_12 : decode cX2_bid 12 = .ok (.aload_n 0, 1) := dk_42 (dk_at dksX2_bid_0 12 rfl rfl)
theorem dX2_bid_13 : decode cX2_bid 13 = .ok (.iload_n 2, 1) := dk_28 (dk_at dksX2_bid_0 13 rfl rfl)
theorem dX2_bid_14 : decode cX2_bid 14 = .ok (.invokevirtual 115, 3) := dk_182 0 115 (dk_at dksX2_bid_0 14 rfl rfl)
theorem dX2_bid_17 : decode cX2_bid 17 = .ok (.ifCond .eq 7, 3) := dk_153 0 7 (dk_at dksX2_bid_0 17 rfl rfl)
theorem dX2_bid_20 : decode cX2_bid 20 = .ok (.iconst 1, 1) := dk_4 (dk_at dksX2_bid_0 20 rfl rfl)
theorem dX2_bid_21 : decode cX2_bid 21 = .ok (.goto 4, 3) := dk_167 0 4 (dk_at dksX2_bid_0 21 rfl rfl)
theorem dX2_bid_24 : decode cX2_bid 24 = .ok (.iconst 0, 1) := dk_3 (dk_at dksX2_bid_1 0 rfl rfl)
theorem dX2_bid_25 : decode cX2_bid 25 = .ok (.ldc 177, 2) := dk_18 177 (dk_at dksX2_bid_1 1 rfl rfl)
theorem dX2_bid_27 : decode cX2_bid 27 = .ok (.invokestatic 111, 3) := dk_184 0 111 (dk_at dksX2_bid_1 3 rfl rfl)
theorem dX2_bid_30 : decode cX2_bid 30 = .ok (.iload_n 3, 1) := dk_29 (dk_at dksX2_bid_1 6 rfl rfl)
theorem dX2_bid_31 : decode cX2_bid 31 = .ok (.i2l, 1) := dk_133 (dk_at dksX2_bid_1 7 rfl rfl)
theorem dX2_bid_32 : decode cX2_bid 32 = .ok (.lconst 0, 1) := dk_9 (dk_at dksX2_bid_1 8 rfl rfl)
theorem dX2_bid_33 : decode cX2_bid 33 = .ok (.ldc2_w 179, 3) := dk_20 0 179 (dk_at dksX2_bid_1 9 rfl rfl)
theorem dX2_bid_36 : decode cX2_bid 36 = .ok (.invokestatic 101, 3) := dk_184 0 101 (dk_at dksX2_bid_1 12 rfl rfl)
theorem dX2_bid_39 : decode cX2_bid 39 = .ok (.ldc 181, 2) := dk_18 181 (dk_at dksX2_bid_1 15 rfl rfl)
theorem dX2_bid_41 : decode cX2_bid 41 = .ok (.invokestatic 127, 3) := dk_184 0 127 (dk_at dksX2_bid_1 17 rfl rfl)
theorem dX2_bid_44 : decode cX2_bid 44 = .ok (.aload_n 0, 1) := dk_42 (dk_at dksX2_bid_1 20 rfl rfl)
theorem dX2_bid_45 : decode cX2_bid 45 = .ok (.getfield 18, 3) := dk_180 0 18 (dk_at dksX2_bid_1 21 rfl rfl)
theorem dX2_bid_48 : decode cX2_bid 48 = .ok (.iload_n 2, 1) := dk_28 (dk_at dksX2_bid_2 0 rfl rfl)
theorem dX2_bid_49 : decode cX2_bid 49 = .ok (.invokevirtual 49, 3) := dk_182 0 49 (dk_at dksX2_bid_2 1 rfl rfl)
theorem dX2_bid_52 : decode cX2_bid 52 = .ok (.checkcast 63, 3) := dk_192 0 63 (dk_at dksX2_bid_2 4 rfl rfl)
theorem dX2_bid_55 : decode cX2_bid 55 = .ok (.getfield 182, 3) := dk_180 0 182 (dk_at dksX2_bid_2 7 rfl rfl)
theorem dX2_bid_58 : decode cX2_bid 58 = .ok (.iload_n 1, 1) := dk_27 (dk_at dksX2_bid_2 10 rfl rfl)
theorem dX2_bid_59 : decode cX2_bid 59 = .ok (.iaload, 1) := dk_46 (dk_at dksX2_bid_2 11 rfl rfl)
theorem dX2_bid_60 : decode cX2_bid 60 = .ok (.istore 4, 2) := dk_54 4 (dk_at dksX2_bid_2 12 rfl rfl)
theorem dX2_bid_62 : decode cX2_bid 62 = .ok (.aload_n 0, 1) := dk_42 (dk_at dksX2_bid_2 14 rfl rfl)
theorem dX2_bid_63 : decode cX2_bid 63 = .ok (.getfield 18, 3) := dk_180 0 18 (dk_at dksX2_bid_2 15 rfl rfl)
theorem dX2_bid_66 : decode cX2_bid 66 = .ok (.iload_n 2, 1) := dk_28 (dk_at dksX2_bid_2 18 rfl rfl)
theorem dX2_bid_67 : decode cX2_bid 67 = .ok (.invokevirtual 49, 3) := dk_182 0 49 (dk_at dksX2_bid_2 19 rfl rfl)
theorem dX2_bid_70 : decode cX2_bid 70 = .ok (.checkcast 63, 3) := dk_192 0 63 (dk_at dksX2_bid_3 0 rfl rfl)
theorem dX2_bid_73 : decode cX2_bid 73 = .ok (.getfield 182, 3) := dk_180 0 182 (dk_at dksX2_bid_3 3 rfl rfl)
theorem dX2_bid_76 : decode cX2_bid 76 = .ok (.iload_n 1, 1) := dk_27 (dk_at dksX2_bid_3 6 rfl rfl)
theorem dX2_bid_77 : decode cX2_bid 77 = .ok (.iload_n 3, 1) := dk_29 (dk_at dksX2_bid_3 7 rfl rfl)
theorem dX2_bid_78 : decode cX2_bid 78 = .ok (.iastore, 1) := dk_79 (dk_at dksX2_bid_3 8 rfl rfl)
theorem dX2_bid_79 : decode cX2_bid 79 = .ok (.iload 4, 2) := dk_21 4 (dk_at dksX2_bid_3 9 rfl rfl)
theorem dX2_bid_81 : decode cX2_bid 81 = .ok (.ireturn, 1) := dk_172 (dk_at dksX2_bid_3 11 rfl rfl)
abbrev cX2_isLink : ByteArray := prog_5_method_6_code
def yX2_isLink : MethodName := ⟨RX2, "isLink", "(I)Z"⟩
def dkwX2_isLink_0 : List UInt8 := [27, 133, 9, 42, 180, 0, 18, 182, 0, 45, 4, 100, 133, 184, 0, 101, 172]
abbrev dktX2_isLink_0 : List UInt8 := dkwX2_isLink_0 ++ []
theorem dksX2_isLink_0 : cX2_isLink.data.toList.drop 0 = dktX2_isLink_0 := by decide +kernel
theorem dX2_isLink_0 : decode cX2_isLink 0 = .ok (.iload_n 1, 1) := dk_27 (dk_at dksX2_isLink_0 0 rfl rfl)
theorem dX2_isLink_1 : decode cX2_isLink 1 = .ok (.i2l, 1) := dk_133 (dk_at dksX2_isLink_0 1 rfl rfl)
theorem dX2_isLink_2 : decode cX2_isLink 2 = .ok (.lconst 0, 1) := dk_9 (dk_at dksX2_isLink_0 2 rfl rfl)
theorem dX2_isLink_3 : decode cX2_isLink 3 = .ok (.aload_n 0, 1) := dk_42 (dk_at dksX2_isLink_0 3 rfl rfl)
theorem dX2_isLink_4 : decode cX2_isLink 4 = .ok (.getfield 18, 3) := dk_180 0 18 (dk_at dksX2_isLink_0 4 rfl rfl)
theorem dX2_isLink_7 : decode cX2_isLink 7 = .ok (.invokevirtual 45, 3) := dk_182 0 45 (dk_at dksX2_isLink_0 7 rfl rfl)
theorem dX2_isLink_10 : decode cX2_isLink 10 = .ok (.iconst 1, 1) := dk_4 (dk_at dksX2_isLink_0 10 rfl rfl)
theorem dX2_isLink_11 : decode cX2_isLink 11 = .ok (.isub, 1) := dk_100 (dk_at dksX2_isLink_0 11 rfl rfl)
theorem dX2_isLink_12 : decode cX2_isLink 12 = .ok (.i2l, 1) := dk_133 (dk_at dksX2_isLink_0 12 rfl rfl)
theorem dX2_isLink_13 : decode cX2_isLink 13 = .ok (.invokestatic 101, 3) := dk_184 0 101 (dk_at dksX2_isLink_0 13 rfl rfl)
theorem dX2_isLink_16 : decode cX2_isLink 16 = .ok (.ireturn, 1) := dk_172 (dk_at dksX2_isLink_0 16 rfl rfl)
abbrev cX2_fail : ByteArray := prog_5_method_10_code
def yX2_fail : MethodName := ⟨RX2, "fail", "(I)I"⟩
def dkwX2_fail_4 : List UInt8 := [181, 0, 163, 44, 3, 181, 0, 166, 29, 172]
abbrev dktX2_fail_4 : List UInt8 := dkwX2_fail_4 ++ []
def dkwX2_fail_3 : List UInt8 := [96, 79, 42, 180, 0, 31, 44, 180, 0, 163, 92, 46, 29, 96, 79, 44, 3, 181, 0, 157, 44, 2]
abbrev dktX2_fail_3 : List UInt8 := dkwX2_fail_3 ++ dktX2_fail_4
def dkwX2_fail_2 : List UInt8 := [180, 0, 38, 108, 62, 44, 180, 0, 163, 2, 159, 0, 29, 42, 180, 0, 25, 44, 180, 0, 163, 92, 46, 29]
abbrev dktX2_fail_2 : List UInt8 := dkwX2_fail_2 ++ dktX2_fail_3
def dkwX2_fail_1 : List UInt8 := [167, 0, 27, 44, 180, 0, 166, 42, 180, 0, 38, 42, 180, 0, 74, 42, 180, 0, 38, 112, 100, 104, 42]
abbrev dktX2_fail_1 : List UInt8 := dkwX2_fail_1 ++ dktX2_fail_2
def dkwX2_fail_0 : List UInt8 := [42, 27, 182, 0, 154, 77, 44, 180, 0, 157, 18, 161, 184, 0, 148, 44, 180, 0, 163, 2, 160, 0, 7, 3]
abbrev dktX2_fail_0 : List UInt8 := dkwX2_fail_0 ++ dktX2_fail_1
theorem dksX2_fail_0 : cX2_fail.data.toList.drop 0 = dktX2_fail_0 := by decide +kernel
theorem dksX2_fail_1 : cX2_fail.data.toList.drop 24 = dktX2_fail_1 := dk_seg dksX2_fail_0 24 rfl rfl
theorem dksX2_fail_2 : cX2_fail.data.toList.drop 47 = dktX2_fail_2 := dk_seg dksX2_fail_1 23 rfl rfl
theorem dksX2_fail_3 : cX2_fail.data.toList.drop 71 = dktX2_fail_3 := dk_seg dksX2_fail_2 24 rfl rfl
theorem dksX2_fail_4 : cX2_fail.data.toList.drop 93 = dktX2_fail_4 := dk_seg dksX2_fail_3 22 rfl rfl
theorem dX2_fail_0 : decode cX2_fail 0 = .ok (.aload_n 0, 1) := dk_42 (dk_at dksX2_fail_0 0 rfl rfl)
theorem dX2_fail_1 : decode cX2_fail 1 = .ok (.iload_n 1, 1) := dk_27 (dk_at dksX2_fail_0 1 rfl rfl)
theorem dX2_fail_2 : decode cX2_fail 2 = .ok (.invokevirtual 154, 3) := dk_182 0 154 (dk_at dksX2_fail_0 2 rfl rfl)
theorem dX2_fail_5 : decode cX2_fail 5 = .ok (.astore_n 2, 1) := dk_77 (dk_at dksX2_fail_0 5 rfl rfl)
theorem dX2_fail_6 : decode cX2_fail 6 = .ok (.aload_n 2, 1) := dk_44 (dk_at dksX2_fail_0 6 rfl rfl)
theorem dX2_fail_7 : decode cX2_fail 7 = .ok (.getfield 157, 3) := dk_180 0 157 (dk_at dksX2_fail_0 7 rfl rfl)
theorem dX2_fail_10 : decode cX2_fail 10 = .ok (.ldc 161, 2) := dk_18 161 (dk_at dksX2_fail_0 10 rfl rfl)
theorem dX2_fail_12 : decode cX2_fail 12 = .ok (.invokestatic 148, 3) := dk_184 0 148 (dk_at dksX2_fail_0 12 rfl rfl)
theorem dX2_fail_15 : decode cX2_fail 15 = .ok (.aload_n 2, 1) := dk_44 (dk_at dksX2_fail_0 15 rfl rfl)
theorem dX2_fail_16 : decode cX2_fail 16 = .ok (.getfield 163, 3) := dk_180 0 163 (dk_at dksX2_fail_0 16 rfl rfl)
theorem dX2_fail_19 : decode cX2_fail 19 = .ok (.iconst (-1), 1) := dk_2 (dk_at dksX2_fail_0 19 rfl rfl)
theorem dX2_fail_20 : decode cX2_fail 20 = .ok (.if_icmp .ne 7, 3) := dk_160 0 7 (dk_at dksX2_fail_0 20 rfl rfl)
theorem dX2_fail_23 : decode cX2_fail 23 = .ok (.iconst 0, 1) := dk_3 (dk_at dksX2_fail_0 23 rfl rfl)
theorem dX2_fail_24 : decode cX2_fail 24 = .ok (.goto 27, 3) := dk_167 0 27 (dk_at dksX2_fail_1 0 rfl rfl)
theorem dX2_fail_27 : decode cX2_fail 27 = .ok (.aload_n 2, 1) := dk_44 (dk_at dksX2_fail_1 3 rfl rfl)
theorem dX2_fail_28 : decode cX2_fail 28 = .ok (.getfield 166, 3) := dk_180 0 166 (dk_at dksX2_fail_1 4 rfl rfl)
theorem dX2_fail_31 : decode cX2_fail 31 = .ok (.aload_n 0, 1) := dk_42 (dk_at dksX2_fail_1 7 rfl rfl)
theorem dX2_fail_32 : decode cX2_fail 32 = .ok (.getfield 38, 3) := dk_180 0 38 (dk_at dksX2_fail_1 8 rfl rfl)
theorem dX2_fail_35 : decode cX2_fail 35 = .ok (.aload_n 0, 1) := dk_42 (dk_at dksX2_fail_1 11 rfl rfl)
theorem dX2_fail_36 : decode cX2_fail 36 = .ok (.getfield 74, 3) := dk_180 0 74 (dk_at dksX2_fail_1 12 rfl rfl)
theorem dX2_fail_39 : decode cX2_fail 39 = .ok (.aload_n 0, 1) := dk_42 (dk_at dksX2_fail_1 15 rfl rfl)
theorem dX2_fail_40 : decode cX2_fail 40 = .ok (.getfield 38, 3) := dk_180 0 38 (dk_at dksX2_fail_1 16 rfl rfl)
theorem dX2_fail_43 : decode cX2_fail 43 = .ok (.irem, 1) := dk_112 (dk_at dksX2_fail_1 19 rfl rfl)
theorem dX2_fail_44 : decode cX2_fail 44 = .ok (.isub, 1) := dk_100 (dk_at dksX2_fail_1 20 rfl rfl)
theorem dX2_fail_45 : decode cX2_fail 45 = .ok (.imul, 1) := dk_104 (dk_at dksX2_fail_1 21 rfl rfl)
theorem dX2_fail_46 : decode cX2_fail 46 = .ok (.aload_n 0, 1) := dk_42 (dk_at dksX2_fail_1 22 rfl rfl)
theorem dX2_fail_47 : decode cX2_fail 47 = .ok (.getfield 38, 3) := dk_180 0 38 (dk_at dksX2_fail_2 0 rfl rfl)
theorem dX2_fail_50 : decode cX2_fail 50 = .ok (.idiv, 1) := dk_108 (dk_at dksX2_fail_2 3 rfl rfl)
theorem dX2_fail_51 : decode cX2_fail 51 = .ok (.istore_n 3, 1) := dk_62 (dk_at dksX2_fail_2 4 rfl rfl)
theorem dX2_fail_52 : decode cX2_fail 52 = .ok (.aload_n 2, 1) := dk_44 (dk_at dksX2_fail_2 5 rfl rfl)
theorem dX2_fail_53 : decode cX2_fail 53 = .ok (.getfield 163, 3) := dk_180 0 163 (dk_at dksX2_fail_2 6 rfl rfl)
theorem dX2_fail_56 : decode cX2_fail 56 = .ok (.iconst (-1), 1) := dk_2 (dk_at dksX2_fail_2 9 rfl rfl)
theorem dX2_fail_57 : decode cX2_fail 57 = .ok (.if_icmp .eq 29, 3) := dk_159 0 29 (dk_at dksX2_fail_2 10 rfl rfl)
theorem dX2_fail_60 : decode cX2_fail 60 = .ok (.aload_n 0, 1) := dk_42 (dk_at dksX2_fail_2 13 rfl rfl)
theorem dX2_fail_61 : decode cX2_fail 61 = .ok (.getfield 25, 3) := dk_180 0 25 (dk_at dksX2_fail_2 14 rfl rfl)
theorem dX2_fail_64 : decode cX2_fail 64 = .ok (.aload_n 2, 1) := dk_44 (dk_at dksX2_fail_2 17 rfl rfl)
theorem dX2_fail_65 : decode cX2_fail 65 = .ok (.getfield 163, 3) := dk_180 0 163 (dk_at dksX2_fail_2 18 rfl rfl)
theorem dX2_fail_68 : decode cX2_fail 68 = .ok (.dup2, 1) := dk_92 (dk_at dksX2_fail_2 21 rfl rfl)
theorem dX2_fail_69 : decode cX2_fail 69 = .ok (.iaload, 1) := dk_46 (dk_at dksX2_fail_2 22 rfl rfl)
theorem dX2_fail_70 : decode cX2_fail 70 = .ok (.iload_n 3, 1) := dk_29 (dk_at dksX2_fail_2 23 rfl rfl)
theorem dX2_fail_71 : decode cX2_fail 71 = .ok (.iadd, 1) := dk_96 (dk_at dksX2_fail_3 0 rfl rfl)
theorem dX2_fail_72 : decode cX2_fail 72 = .ok (.iastore, 1) := dk_79 (dk_at dksX2_fail_3 1 rfl rfl)
theorem dX2_fail_73 : decode cX2_fail 73 = .ok (.aload_n 0, 1) := dk_42 (dk_at dksX2_fail_3 2 rfl rfl)
theorem dX2_fail_74 : decode cX2_fail 74 = .ok (.getfield 31, 3) := dk_180 0 31 (dk_at dksX2_fail_3 3 rfl rfl)
theorem dX2_fail_77 : decode cX2_fail 77 = .ok (.aload_n 2, 1) := dk_44 (dk_at dksX2_fail_3 6 rfl rfl)
theorem dX2_fail_78 : decode cX2_fail 78 = .ok (.getfield 163, 3) := dk_180 0 163 (dk_at dksX2_fail_3 7 rfl rfl)
theorem dX2_fail_81 : decode cX2_fail 81 = .ok (.dup2, 1) := dk_92 (dk_at dksX2_fail_3 10 rfl rfl)
theorem dX2_fail_82 : decode cX2_fail 82 = .ok (.iaload, 1) := dk_46 (dk_at dksX2_fail_3 11 rfl rfl)
theorem dX2_fail_83 : decode cX2_fail 83 = .ok (.iload_n 3, 1) := dk_29 (dk_at dksX2_fail_3 12 rfl rfl)
theorem dX2_fail_84 : decode cX2_fail 84 = .ok (.iadd, 1) := dk_96 (dk_at dksX2_fail_3 13 rfl rfl)
theorem dX2_fail_85 : decode cX2_fail 85 = .ok (.iastore, 1) := dk_79 (dk_at dksX2_fail_3 14 rfl rfl)
theorem dX2_fail_86 : decode cX2_fail 86 = .ok (.aload_n 2, 1) := dk_44 (dk_at dksX2_fail_3 15 rfl rfl)
theorem dX2_fail_87 : decode cX2_fail 87 = .ok (.iconst 0, 1) := dk_3 (dk_at dksX2_fail_3 16 rfl rfl)
theorem dX2_fail_88 : decode cX2_fail 88 = .ok (.putfield 157, 3) := dk_181 0 157 (dk_at dksX2_fail_3 17 rfl rfl)
theorem dX2_fail_91 : decode cX2_fail 91 = .ok (.aload_n 2, 1) := dk_44 (dk_at dksX2_fail_3 20 rfl rfl)
theorem dX2_fail_92 : decode cX2_fail 92 = .ok (.iconst (-1), 1) := dk_2 (dk_at dksX2_fail_3 21 rfl rfl)
theorem dX2_fail_93 : decode cX2_fail 93 = .ok (.putfield 163, 3) := dk_181 0 163 (dk_at dksX2_fail_4 0 rfl rfl)
theorem dX2_fail_96 : decode cX2_fail 96 = .ok (.aload_n 2, 1) := dk_44 (dk_at dksX2_fail_4 3 rfl rfl)
theorem dX2_fail_97 : decode cX2_fail 97 = .ok (.iconst 0, 1) := dk_3 (dk_at dksX2_fail_4 4 rfl rfl)
theorem dX2_fail_98 : decode cX2_fail 98 = .ok (.putfield 166, 3) := dk_181 0 166 (dk_at dksX2_fail_4 5 rfl rfl)
theorem dX2_fail_101 : decode cX2_fail 101 = .ok (.iload_n 3, 1) := dk_29 (dk_at dksX2_fail_4 8 rfl rfl)
theorem dX2_fail_102 : decode cX2_fail 102 = .ok (.ireturn, 1) := dk_172 (dk_at dksX2_fail_4 9 rfl rfl)
abbrev cX2_link : ByteArray := prog_5_method_7_code
def yX2_link : MethodName := ⟨RX2, "link", "(I)LBridgeAuction$Link;"⟩
def dkwX2_link_0 : List UInt8 := [42, 27, 182, 0, 115, 18, 118, 184, 0, 111, 42, 180, 0, 18, 27, 182, 0, 49, 192, 0, 63, 176]
abbrev dktX2_link_0 : List UInt8 := dkwX2_link_0 ++ []
theorem dksX2_link_0 : cX2_link.data.toList.drop 0 = dktX2_link_0 := by decide +kernel
theorem dX2_link_0 : decode cX2_link 0 = .ok (.aload_n 0, 1) := dk_42 (dk_at dksX2_link_0 0 rfl rfl)
theorem dX2_link_1 : decode cX2_link 1 = .ok (.iload_n 1, 1) := dk_27 (dk_at dksX2_link_0 1 rfl rfl)
theorem dX2_link_2 : decode cX2_link 2 = .ok (.invokevirtual 115, 3) := dk_182 0 115 (dk_at dksX2_link_0 2 rfl rfl)
theorem dX2_link_5 : decode cX2_link 5 = .ok (.ldc 118, 2) := dk_18 118 (dk_at dksX2_link_0 5 rfl rfl)
theorem dX2_link_7 : decode cX2_link 7 = .ok (.invokestatic 111, 3) := dk_184 0 111 (dk_at dksX2_link_0 7 rfl rfl)
theorem dX2_link_10 : decode cX2_link 10 = .ok (.aload_n 0, 1) := dk_42 (dk_at dksX2_link_0 10 rfl rfl)
theorem dX2_link_11 : decode cX2_link 11 = .ok (.getfield 18, 3) := dk_180 0 18 (dk_at dksX2_link_0 11 rfl rfl)
theorem dX2_link_14 : decode cX2_link 14 = .ok (.iload_n 1, 1) := dk_27 (dk_at dksX2_link_0 14 rfl rfl)
theorem dX2_link_15 : decode cX2_link 15 = .ok (.invokevirtual 49, 3) := dk_182 0 49 (dk_at dksX2_link_0 15 rfl rfl)
theorem dX2_link_18 : decode cX2_link 18 = .ok (.checkcast 63, 3) := dk_192 0 63 (dk_at dksX2_link_0 18 rfl rfl)
theorem dX2_link_21 : decode cX2_link 21 = .ok (.areturn, 1) := dk_176 (dk_at dksX2_link_0 21 rfl rfl)
abbrev cX2_fix : ByteArray := prog_5_method_11_code
def yX2_fix : MethodName := ⟨RX2, "fix", "(I)I"⟩
def dkwX2_fix_3 : List UInt8 := [132, 4, 1, 167, 255, 215, 29, 172]
abbrev dktX2_fix_3 : List UInt8 := dkwX2_fix_3 ++ []
def dkwX2_fix_2 : List UInt8 := [180, 0, 18, 21, 4, 182, 0, 49, 192, 0, 63, 180, 0, 157, 153, 0, 7, 4, 167, 0, 4, 3, 96, 62]
abbrev dktX2_fix_2 : List UInt8 := dkwX2_fix_2 ++ dktX2_fix_3
def dkwX2_fix_1 : List UInt8 := [4, 181, 0, 157, 3, 62, 3, 54, 4, 21, 4, 42, 180, 0, 18, 182, 0, 45, 162, 0, 35, 29, 42]
abbrev dktX2_fix_1 : List UInt8 := dkwX2_fix_1 ++ dktX2_fix_2
def dkwX2_fix_0 : List UInt8 := [42, 27, 182, 0, 154, 77, 44, 180, 0, 157, 154, 0, 7, 4, 167, 0, 4, 3, 18, 169, 184, 0, 148, 44]
abbrev dktX2_fix_0 : List UInt8 := dkwX2_fix_0 ++ dktX2_fix_1
theorem dksX2_fix_0 : cX2_fix.data.toList.drop 0 = dktX2_fix_0 := by decide +kernel
theorem dksX2_fix_1 : cX2_fix.data.toList.drop 24 = dktX2_fix_1 := dk_seg dksX2_fix_0 24 rfl rfl
theorem dksX2_fix_2 : cX2_fix.data.toList.drop 47 = dktX2_fix_2 := dk_seg dksX2_fix_1 23 rfl rfl
theorem dksX2_fix_3 : cX2_fix.data.toList.drop 71 = dktX2_fix_3 := dk_seg dksX2_fix_2 24 rfl rfl
theorem dX2_fix_0 : decode cX2_fix 0 = .ok (.aload_n 0, 1) := dk_42 (dk_at dksX2_fix_0 0 rfl rfl)
theorem dX2_fix_1 : decode cX2_fix 1 = .ok (.iload_n 1, 1) := dk_27 (dk_at dksX2_fix_0 1 rfl rfl)
theorem dX2_fix_2 : decode cX2_fix 2 = .ok (.invokevirtual 154, 3) := dk_182 0 154 (dk_at dksX2_fix_0 2 rfl rfl)
theorem dX2_fix_5 : decode cX2_fix 5 = .ok (.astore_n 2, 1) := dk_77 (dk_at dksX2_fix_0 5 rfl rfl)
theorem dX2_fix_6 : decode cX2_fix 6 = .ok (.aload_n 2, 1) := dk_44 (dk_at dksX2_fix_0 6 rfl rfl)
theorem dX2_fix_7 : decode cX2_fix 7 = .ok (.getfield 157, 3) := dk_180 0 157 (dk_at dksX2_fix_0 7 rfl rfl)
theorem dX2_fix_10 : decode cX2_fix 10 = .ok (.ifCond .ne 7, 3) := dk_154 0 7 (dk_at dksX2_fix_0 10 rfl rfl)
theorem dX2_fix_13 : decode cX2_fix 13 = .ok (.iconst 1, 1) := dk_4 (dk_at dksX2_fix_0 13 rfl rfl)
theorem dX2_fix_14 : decode cX2_fix 14 = .ok (.goto 4, 3) := dk_167 0 4 (dk_at dksX2_fix_0 14 rfl rfl)
theorem dX2_fix_17 : decode cX2_fix 17 = .ok (.iconst 0, 1) := dk_3 (dk_at dksX2_fix_0 17 rfl rfl)
theorem dX2_fix_18 : decode cX2_fix 18 = .ok (.ldc 169, 2) := dk_18 169 (dk_at dksX2_fix_0 18 rfl rfl)
theorem dX2_fix_20 : decode cX2_fix 20 = .ok (.invokestatic 148, 3) := dk_184 0 148 (dk_at dksX2_fix_0 20 rfl rfl)
theorem dX2_fix_23 : decode cX2_fix 23 = .ok (.aload_n 2, 1) := dk_44 (dk_at dksX2_fix_0 23 rfl rfl)
theorem dX2_fix_24 : decode cX2_fix 24 = .ok (.iconst 1, 1) := dk_4 (dk_at dksX2_fix_1 0 rfl rfl)
theorem dX2_fix_25 : decode cX2_fix 25 = .ok (.putfield 157, 3) := dk_181 0 157 (dk_at dksX2_fix_1 1 rfl rfl)
theorem dX2_fix_28 : decode cX2_fix 28 = .ok (.iconst 0, 1) := dk_3 (dk_at dksX2_fix_1 4 rfl rfl)
theorem dX2_fix_29 : decode cX2_fix 29 = .ok (.istore_n 3, 1) := dk_62 (dk_at dksX2_fix_1 5 rfl rfl)
theorem dX2_fix_30 : decode cX2_fix 30 = .ok (.iconst 0, 1) := dk_3 (dk_at dksX2_fix_1 6 rfl rfl)
theorem dX2_fix_31 : decode cX2_fix 31 = .ok (.istore 4, 2) := dk_54 4 (dk_at dksX2_fix_1 7 rfl rfl)
theorem dX2_fix_33 : decode cX2_fix 33 = .ok (.iload 4, 2) := dk_21 4 (dk_at dksX2_fix_1 9 rfl rfl)
theorem dX2_fix_35 : decode cX2_fix 35 = .ok (.aload_n 0, 1) := dk_42 (dk_at dksX2_fix_1 11 rfl rfl)
theorem dX2_fix_36 : decode cX2_fix 36 = .ok (.getfield 18, 3) := dk_180 0 18 (dk_at dksX2_fix_1 12 rfl rfl)
theorem dX2_fix_39 : decode cX2_fix 39 = .ok (.invokevirtual 45, 3) := dk_182 0 45 (dk_at dksX2_fix_1 15 rfl rfl)
theorem dX2_fix_42 : decode cX2_fix 42 = .ok (.if_icmp .ge 35, 3) := dk_162 0 35 (dk_at dksX2_fix_1 18 rfl rfl)
theorem dX2_fix_45 : decode cX2_fix 45 = .ok (.iload_n 3, 1) := dk_29 (dk_at dksX2_fix_1 21 rfl rfl)
theorem dX2_fix_46 : decode cX2_fix 46 = .ok (.aload_n 0, 1) := dk_42 (dk_at dksX2_fix_1 22 rfl rfl)
theorem dX2_fix_47 : decode cX2_fix 47 = .ok (.getfield 18, 3) := dk_180 0 18 (dk_at dksX2_fix_2 0 rfl rfl)
theorem dX2_fix_50 : decode cX2_fix 50 = .ok (.iload 4, 2) := dk_21 4 (dk_at dksX2_fix_2 3 rfl rfl)
theorem dX2_fix_52 : decode cX2_fix 52 = .ok (.invokevirtual 49, 3) := dk_182 0 49 (dk_at dksX2_fix_2 5 rfl rfl)
theorem dX2_fix_55 : decode cX2_fix 55 = .ok (.checkcast 63, 3) := dk_192 0 63 (dk_at dksX2_fix_2 8 rfl rfl)
theorem dX2_fix_58 : decode cX2_fix 58 = .ok (.getfield 157, 3) := dk_180 0 157 (dk_at dksX2_fix_2 11 rfl rfl)
theorem dX2_fix_61 : decode cX2_fix 61 = .ok (.ifCond .eq 7, 3) := dk_153 0 7 (dk_at dksX2_fix_2 14 rfl rfl)
theorem dX2_fix_64 : decode cX2_fix 64 = .ok (.iconst 1, 1) := dk_4 (dk_at dksX2_fix_2 17 rfl rfl)
theorem dX2_fix_65 : decode cX2_fix 65 = .ok (.goto 4, 3) := dk_167 0 4 (dk_at dksX2_fix_2 18 rfl rfl)
theorem dX2_fix_68 : decode cX2_fix 68 = .ok (.iconst 0, 1) := dk_3 (dk_at dksX2_fix_2 21 rfl rfl)
theorem dX2_fix_69 : decode cX2_fix 69 = .ok (.iadd, 1) := dk_96 (dk_at dksX2_fix_2 22 rfl rfl)
theorem dX2_fix_70 : decode cX2_fix 70 = .ok (.istore_n 3, 1) := dk_62 (dk_at dksX2_fix_2 23 rfl rfl)
theorem dX2_fix_71 : decode cX2_fix 71 = .ok (.iinc 4 1, 3) := dk_132 4 1 (dk_at dksX2_fix_3 0 rfl rfl)
theorem dX2_fix_74 : decode cX2_fix 74 = .ok (.goto (-41), 3) := dk_167 255 215 (dk_at dksX2_fix_3 3 rfl rfl)
theorem dX2_fix_77 : decode cX2_fix 77 = .ok (.iload_n 3, 1) := dk_29 (dk_at dksX2_fix_3 6 rfl rfl)
theorem dX2_fix_78 : decode cX2_fix 78 = .ok (.ireturn, 1) := dk_172 (dk_at dksX2_fix_3 7 rfl rfl)
abbrev cX2_setPriority : ByteArray := prog_5_method_8_code
def yX2_setPriority : MethodName := ⟨RX2, "setPriority", "(II)I"⟩
def dkwX2_setPriority_1 : List UInt8 := [54, 4, 45, 28, 181, 0, 130, 45, 45, 182, 0, 132, 184, 0, 135, 181, 0, 141, 21, 4, 172]
abbrev dktX2_setPriority_1 : List UInt8 := dkwX2_setPriority_1 ++ []
def dkwX2_setPriority_0 : List UInt8 := [42, 27, 182, 0, 120, 78, 28, 133, 9, 20, 0, 123, 184, 0, 101, 18, 125, 184, 0, 127, 45, 180, 0, 130]
abbrev dktX2_setPriority_0 : List UInt8 := dkwX2_setPriority_0 ++ dktX2_setPriority_1
theorem dksX2_setPriority_0 : cX2_setPriority.data.toList.drop 0 = dktX2_setPriority_0 := by decide +kernel
theorem dksX2_setPriority_1 : cX2_setPriority.data.toList.drop 24 = dktX2_setPriority_1 := dk_seg dksX2_setPriority_0 24 rfl rfl
theorem dX2_setPriority_0 : decode cX2_setPriority 0 = .ok (.aload_n 0, 1) := dk_42 (dk_at dksX2_setPriority_0 0 rfl rfl)
theorem dX2_setPriority_1 : decode cX2_setPriority 1 = .ok (.iload_n 1, 1) := dk_27 (dk_at dksX2_setPriority_0 1 rfl rfl)
theorem dX2_setPriority_2 : decode cX2_setPriority 2 = .ok (.invokevirtual 120, 3) := dk_182 0 120 (dk_at dksX2_setPriority_0 2 rfl rfl)
theorem dX2_setPriority_5 : decode cX2_setPriority 5 = .ok (.astore_n 3, 1) := dk_78 (dk_at dksX2_setPriority_0 5 rfl rfl)
theorem dX2_setPriority_6 : decode cX2_setPriority 6 = .ok (.iload_n 2, 1) := dk_28 (dk_at dksX2_setPriority_0 6 rfl rfl)
theorem dX2_setPriority_7 : decode cX2_setPriority 7 = .ok (.i2l, 1) := dk_133 (dk_at dksX2_setPriority_0 7 rfl rfl)
theorem dX2_setPriority_8 : decode cX2_setPriority 8 = .ok (.lconst 0, 1) := dk_9 (dk_at dksX2_setPriority_0 8 rfl rfl)
theorem dX2_setPriority_9 : decode cX2_setPriority 9 = .ok (.ldc2_w 123, 3) := dk_20 0 123 (dk_at dksX2_setPriority_0 9 rfl rfl)
theorem dX2_setPriority_12 : decode cX2_setPriority 12 = .ok (.invokestatic 101, 3) := dk_184 0 101 (dk_at dksX2_setPriority_0 12 rfl rfl)
theorem dX2_setPriority_15 : decode cX2_setPriority 15 = .ok (.ldc 125, 2) := dk_18 125 (dk_at dksX2_setPriority_0 15 rfl rfl)
theorem dX2_setPriority_17 : decode cX2_setPriority 17 = .ok (.invokestatic 127, 3) := dk_184 0 127 (dk_at dksX2_setPriority_0 17 rfl rfl)
theorem dX2_setPriority_20 : decode cX2_setPriority 20 = .ok (.aload_n 3, 1) := dk_45 (dk_at dksX2_setPriority_0 20 rfl rfl)
theorem dX2_setPriority_21 : decode cX2_setPriority 21 = .ok (.getfield 130, 3) := dk_180 0 130 (dk_at dksX2_setPriority_0 21 rfl rfl)
theorem dX2_setPriority_24 : decode cX2_setPriority 24 = .ok (.istore 4, 2) := dk_54 4 (dk_at dksX2_setPriority_1 0 rfl rfl)
theorem dX2_setPriority_26 : decode cX2_setPriority 26 = .ok (.aload_n 3, 1) := dk_45 (dk_at dksX2_setPriority_1 2 rfl rfl)
theorem dX2_setPriority_27 : decode cX2_setPriority 27 = .ok (.iload_n 2, 1) := dk_28 (dk_at dksX2_setPriority_1 3 rfl rfl)
theorem dX2_setPriority_28 : decode cX2_setPriority 28 = .ok (.putfield 130, 3) := dk_181 0 130 (dk_at dksX2_setPriority_1 4 rfl rfl)
theorem dX2_setPriority_31 : decode cX2_setPriority 31 = .ok (.aload_n 3, 1) := dk_45 (dk_at dksX2_setPriority_1 7 rfl rfl)
theorem dX2_setPriority_32 : decode cX2_setPriority 32 = .ok (.aload_n 3, 1) := dk_45 (dk_at dksX2_setPriority_1 8 rfl rfl)
theorem dX2_setPriority_33 : decode cX2_setPriority 33 = .ok (.invokevirtual 132, 3) := dk_182 0 132 (dk_at dksX2_setPriority_1 9 rfl rfl)
theorem dX2_setPriority_36 : decode cX2_setPriority 36 = .ok (.invokestatic 135, 3) := dk_184 0 135 (dk_at dksX2_setPriority_1 12 rfl rfl)
theorem dX2_setPriority_39 : decode cX2_setPriority 39 = .ok (.putfield 141, 3) := dk_181 0 141 (dk_at dksX2_setPriority_1 15 rfl rfl)
theorem dX2_setPriority_42 : decode cX2_setPriority 42 = .ok (.iload 4, 2) := dk_21 4 (dk_at dksX2_setPriority_1 18 rfl rfl)
theorem dX2_setPriority_44 : decode cX2_setPriority 44 = .ok (.ireturn, 1) := dk_172 (dk_at dksX2_setPriority_1 20 rfl rfl)
abbrev cX2_bridge : ByteArray := prog_5_method_5_code
def yX2_bridge : MethodName := ⟨RX2, "bridge", "(I)LBridgeAuction$Bridge;"⟩
def dkwX2_bridge_0 : List UInt8 := [42, 27, 182, 0, 105, 18, 109, 184, 0, 111, 42, 180, 0, 12, 27, 182, 0, 49, 192, 0, 53, 176]
abbrev dktX2_bridge_0 : List UInt8 := dkwX2_bridge_0 ++ []
theorem dksX2_bridge_0 : cX2_bridge.data.toList.drop 0 = dktX2_bridge_0 := by decide +kernel
theorem dX2_bridge_0 : decode cX2_bridge 0 = .ok (.aload_n 0, 1) := dk_42 (dk_at dksX2_bridge_0 0 rfl rfl)
theorem dX2_bridge_1 : decode cX2_bridge 1 = .ok (.iload_n 1, 1) := dk_27 (dk_at dksX2_bridge_0 1 rfl rfl)
theorem dX2_bridge_2 : decode cX2_bridge 2 = .ok (.invokevirtual 105, 3) := dk_182 0 105 (dk_at dksX2_bridge_0 2 rfl rfl)
theorem dX2_bridge_5 : decode cX2_bridge 5 = .ok (.ldc 109, 2) := dk_18 109 (dk_at dksX2_bridge_0 5 rfl rfl)
theorem dX2_bridge_7 : decode cX2_bridge 7 = .ok (.invokestatic 111, 3) := dk_184 0 111 (dk_at dksX2_bridge_0 7 rfl rfl)
theorem dX2_bridge_10 : decode cX2_bridge 10 = .ok (.aload_n 0, 1) := dk_42 (dk_at dksX2_bridge_0 10 rfl rfl)
theorem dX2_bridge_11 : decode cX2_bridge 11 = .ok (.getfield 12, 3) := dk_180 0 12 (dk_at dksX2_bridge_0 11 rfl rfl)
theorem dX2_bridge_14 : decode cX2_bridge 14 = .ok (.iload_n 1, 1) := dk_27 (dk_at dksX2_bridge_0 14 rfl rfl)
theorem dX2_bridge_15 : decode cX2_bridge 15 = .ok (.invokevirtual 49, 3) := dk_182 0 49 (dk_at dksX2_bridge_0 15 rfl rfl)
theorem dX2_bridge_18 : decode cX2_bridge 18 = .ok (.checkcast 53, 3) := dk_192 0 53 (dk_at dksX2_bridge_0 18 rfl rfl)
theorem dX2_bridge_21 : decode cX2_bridge 21 = .ok (.areturn, 1) := dk_176 (dk_at dksX2_bridge_0 21 rfl rfl)
abbrev cX2_moveHost : ByteArray := prog_5_method_12_code
def yX2_moveHost : MethodName := ⟨RX2, "moveHost", "(II)I"⟩
def dkwX2_moveHost_1 : List UInt8 := [3, 18, 173, 184, 0, 111, 42, 180, 0, 21, 27, 46, 62, 42, 180, 0, 21, 27, 28, 79, 29, 172]
abbrev dktX2_moveHost_1 : List UInt8 := dkwX2_moveHost_1 ++ []
def dkwX2_moveHost_0 : List UInt8 := [27, 133, 9, 20, 0, 171, 184, 0, 101, 153, 0, 15, 42, 28, 182, 0, 105, 153, 0, 7, 4, 167, 0, 4]
abbrev dktX2_moveHost_0 : List UInt8 := dkwX2_moveHost_0 ++ dktX2_moveHost_1
theorem dksX2_moveHost_0 : cX2_moveHost.data.toList.drop 0 = dktX2_moveHost_0 := by decide +kernel
theorem dksX2_moveHost_1 : cX2_moveHost.data.toList.drop 24 = dktX2_moveHost_1 := dk_seg dksX2_moveHost_0 24 rfl rfl
theorem dX2_moveHost_0 : decode cX2_moveHost 0 = .ok (.iload_n 1, 1) := dk_27 (dk_at dksX2_moveHost_0 0 rfl rfl)
theorem dX2_moveHost_1 : decode cX2_moveHost 1 = .ok (.i2l, 1) := dk_133 (dk_at dksX2_moveHost_0 1 rfl rfl)
theorem dX2_moveHost_2 : decode cX2_moveHost 2 = .ok (.lconst 0, 1) := dk_9 (dk_at dksX2_moveHost_0 2 rfl rfl)
theorem dX2_moveHost_3 : decode cX2_moveHost 3 = .ok (.ldc2_w 171, 3) := dk_20 0 171 (dk_at dksX2_moveHost_0 3 rfl rfl)
theorem dX2_moveHost_6 : decode cX2_moveHost 6 = .ok (.invokestatic 101, 3) := dk_184 0 101 (dk_at dksX2_moveHost_0 6 rfl rfl)
theorem dX2_moveHost_9 : decode cX2_moveHost 9 = .ok (.ifCond .eq 15, 3) := dk_153 0 15 (dk_at dksX2_moveHost_0 9 rfl rfl)
theorem dX2_moveHost_12 : decode cX2_moveHost 12 = .ok (.aload_n 0, 1) := dk_42 (dk_at dksX2_moveHost_0 12 rfl rfl)
theorem dX2_moveHost_13 : decode cX2_moveHost 13 = .ok (.iload_n 2, 1) := dk_28 (dk_at dksX2_moveHost_0 13 rfl rfl)
theorem dX2_moveHost_14 : decode cX2_moveHost 14 = .ok (.invokevirtual 105, 3) := dk_182 0 105 (dk_at dksX2_moveHost_0 14 rfl rfl)
theorem dX2_moveHost_17 : decode cX2_moveHost 17 = .ok (.ifCond .eq 7, 3) := dk_153 0 7 (dk_at dksX2_moveHost_0 17 rfl rfl)
theorem dX2_moveHost_20 : decode cX2_moveHost 20 = .ok (.iconst 1, 1) := dk_4 (dk_at dksX2_moveHost_0 20 rfl rfl)
theorem dX2_moveHost_21 : decode cX2_moveHost 21 = .ok (.goto 4, 3) := dk_167 0 4 (dk_at dksX2_moveHost_0 21 rfl rfl)
theorem dX2_moveHost_24 : decode cX2_moveHost 24 = .ok (.iconst 0, 1) := dk_3 (dk_at dksX2_moveHost_1 0 rfl rfl)
theorem dX2_moveHost_25 : decode cX2_moveHost 25 = .ok (.ldc 173, 2) := dk_18 173 (dk_at dksX2_moveHost_1 1 rfl rfl)
theorem dX2_moveHost_27 : decode cX2_moveHost 27 = .ok (.invokestatic 111, 3) := dk_184 0 111 (dk_at dksX2_moveHost_1 3 rfl rfl)
theorem dX2_moveHost_30 : decode cX2_moveHost 30 = .ok (.aload_n 0, 1) := dk_42 (dk_at dksX2_moveHost_1 6 rfl rfl)
theorem dX2_moveHost_31 : decode cX2_moveHost 31 = .ok (.getfield 21, 3) := dk_180 0 21 (dk_at dksX2_moveHost_1 7 rfl rfl)
theorem dX2_moveHost_34 : decode cX2_moveHost 34 = .ok (.iload_n 1, 1) := dk_27 (dk_at dksX2_moveHost_1 10 rfl rfl)
theorem dX2_moveHost_35 : decode cX2_moveHost 35 = .ok (.iaload, 1) := dk_46 (dk_at dksX2_moveHost_1 11 rfl rfl)
theorem dX2_moveHost_36 : decode cX2_moveHost 36 = .ok (.istore_n 3, 1) := dk_62 (dk_at dksX2_moveHost_1 12 rfl rfl)
theorem dX2_moveHost_37 : decode cX2_moveHost 37 = .ok (.aload_n 0, 1) := dk_42 (dk_at dksX2_moveHost_1 13 rfl rfl)
theorem dX2_moveHost_38 : decode cX2_moveHost 38 = .ok (.getfield 21, 3) := dk_180 0 21 (dk_at dksX2_moveHost_1 14 rfl rfl)
theorem dX2_moveHost_41 : decode cX2_moveHost 41 = .ok (.iload_n 1, 1) := dk_27 (dk_at dksX2_moveHost_1 17 rfl rfl)
theorem dX2_moveHost_42 : decode cX2_moveHost 42 = .ok (.iload_n 2, 1) := dk_28 (dk_at dksX2_moveHost_1 18 rfl rfl)
theorem dX2_moveHost_43 : decode cX2_moveHost 43 = .ok (.iastore, 1) := dk_79 (dk_at dksX2_moveHost_1 19 rfl rfl)
theorem dX2_moveHost_44 : decode cX2_moveHost 44 = .ok (.iload_n 3, 1) := dk_29 (dk_at dksX2_moveHost_1 20 rfl rfl)
theorem dX2_moveHost_45 : decode cX2_moveHost 45 = .ok (.ireturn, 1) := dk_172 (dk_at dksX2_moveHost_1 21 rfl rfl)
abbrev cX2_tick : ByteArray := prog_5_method_14_code
def yX2_tick : MethodName := ⟨RX2, "tick", "(I)I"⟩
def dkwX2_tick_1 : List UInt8 := [182, 0, 189, 132, 2, 1, 167, 255, 244, 42, 180, 0, 74, 172]
abbrev dktX2_tick_1 : List UInt8 := dkwX2_tick_1 ++ []
def dkwX2_tick_0 : List UInt8 := [27, 133, 10, 20, 0, 185, 184, 0, 101, 18, 187, 184, 0, 127, 3, 61, 28, 27, 162, 0, 13, 42]
abbrev dktX2_tick_0 : List UInt8 := dkwX2_tick_0 ++ dktX2_tick_1
theorem dksX2_tick_0 : cX2_tick.data.toList.drop 0 = dktX2_tick_0 := by decide +kernel
theorem dksX2_tick_1 : cX2_tick.data.toList.drop 22 = dktX2_tick_1 := dk_seg dksX2_tick_0 22 rfl rfl
theorem dX2_tick_0 : decode cX2_tick 0 = .ok (.iload_n 1, 1) := dk_27 (dk_at dksX2_tick_0 0 rfl rfl)
theorem dX2_tick_1 : decode cX2_tick 1 = .ok (.i2l, 1) := dk_133 (dk_at dksX2_tick_0 1 rfl rfl)
theorem dX2_tick_2 : decode cX2_tick 2 = .ok (.lconst 1, 1) := dk_10 (dk_at dksX2_tick_0 2 rfl rfl)
theorem dX2_tick_3 : decode cX2_tick 3 = .ok (.ldc2_w 185, 3) := dk_20 0 185 (dk_at dksX2_tick_0 3 rfl rfl)
theorem dX2_tick_6 : decode cX2_tick 6 = .ok (.invokestatic 101, 3) := dk_184 0 101 (dk_at dksX2_tick_0 6 rfl rfl)
theorem dX2_tick_9 : decode cX2_tick 9 = .ok (.ldc 187, 2) := dk_18 187 (dk_at dksX2_tick_0 9 rfl rfl)
theorem dX2_tick_11 : decode cX2_tick 11 = .ok (.invokestatic 127, 3) := dk_184 0 127 (dk_at dksX2_tick_0 11 rfl rfl)
theorem dX2_tick_14 : decode cX2_tick 14 = .ok (.iconst 0, 1) := dk_3 (dk_at dksX2_tick_0 14 rfl rfl)
theorem dX2_tick_15 : decode cX2_tick 15 = .ok (.istore_n 2, 1) := dk_61 (dk_at dksX2_tick_0 15 rfl rfl)
theorem dX2_tick_16 : decode cX2_tick 16 = .ok (.iload_n 2, 1) := dk_28 (dk_at dksX2_tick_0 16 rfl rfl)
theorem dX2_tick_17 : decode cX2_tick 17 = .ok (.iload_n 1, 1) := dk_27 (dk_at dksX2_tick_0 17 rfl rfl)
theorem dX2_tick_18 : decode cX2_tick 18 = .ok (.if_icmp .ge 13, 3) := dk_162 0 13 (dk_at dksX2_tick_0 18 rfl rfl)
theorem dX2_tick_21 : decode cX2_tick 21 = .ok (.aload_n 0, 1) := dk_42 (dk_at dksX2_tick_0 21 rfl rfl)
theorem dX2_tick_22 : decode cX2_tick 22 = .ok (.invokevirtual 189, 3) := dk_182 0 189 (dk_at dksX2_tick_1 0 rfl rfl)
theorem dX2_tick_25 : decode cX2_tick 25 = .ok (.iinc 2 1, 3) := dk_132 2 1 (dk_at dksX2_tick_1 3 rfl rfl)
theorem dX2_tick_28 : decode cX2_tick 28 = .ok (.goto (-12), 3) := dk_167 255 244 (dk_at dksX2_tick_1 6 rfl rfl)
theorem dX2_tick_31 : decode cX2_tick 31 = .ok (.aload_n 0, 1) := dk_42 (dk_at dksX2_tick_1 9 rfl rfl)
theorem dX2_tick_32 : decode cX2_tick 32 = .ok (.getfield 74, 3) := dk_180 0 74 (dk_at dksX2_tick_1 10 rfl rfl)
theorem dX2_tick_35 : decode cX2_tick 35 = .ok (.ireturn, 1) := dk_172 (dk_at dksX2_tick_1 13 rfl rfl)
abbrev cX2_tickOnce : ByteArray := prog_5_method_15_code
def yX2_tickOnce : MethodName := ⟨RX2, "tickOnce", "()V"⟩
def dkwX2_tickOnce_10 : List UInt8 := [43, 198, 0, 8, 42, 43, 182, 0, 219, 177]
abbrev dktX2_tickOnce_10 : List UInt8 := dkwX2_tickOnce_10 ++ []
def dkwX2_tickOnce_9 : List UInt8 := [180, 0, 12, 45, 180, 0, 206, 182, 0, 49, 192, 0, 53, 43, 182, 0, 212, 76, 132, 2, 1, 167, 255, 150]
abbrev dktX2_tickOnce_9 : List UInt8 := dkwX2_tickOnce_9 ++ dktX2_tickOnce_10
def dkwX2_tickOnce_8 : List UInt8 := [76, 42, 45, 28, 45, 180, 0, 216, 42, 180, 0, 12, 45, 180, 0, 209, 182, 0, 49, 192, 0, 53, 42]
abbrev dktX2_tickOnce_8 : List UInt8 := dkwX2_tickOnce_8 ++ dktX2_tickOnce_9
def dkwX2_tickOnce_7 : List UInt8 := [182, 0, 49, 192, 0, 53, 42, 180, 0, 12, 45, 180, 0, 209, 182, 0, 49, 192, 0, 53, 43, 182, 0, 212]
abbrev dktX2_tickOnce_7 : List UInt8 := dkwX2_tickOnce_7 ++ dktX2_tickOnce_8
def dkwX2_tickOnce_6 : List UInt8 := [182, 0, 49, 192, 0, 63, 78, 42, 45, 28, 45, 180, 0, 202, 42, 180, 0, 12, 45, 180, 0, 206]
abbrev dktX2_tickOnce_6 : List UInt8 := dkwX2_tickOnce_6 ++ dktX2_tickOnce_7
def dkwX2_tickOnce_5 : List UInt8 := [167, 255, 214, 1, 76, 3, 61, 28, 42, 180, 0, 18, 182, 0, 45, 162, 0, 101, 42, 180, 0, 18, 28]
abbrev dktX2_tickOnce_5 : List UInt8 := dkwX2_tickOnce_5 ++ dktX2_tickOnce_6
def dkwX2_tickOnce_4 : List UInt8 := [192, 0, 53, 42, 180, 0, 12, 27, 182, 0, 49, 192, 0, 53, 180, 0, 199, 181, 0, 141, 132, 1, 1]
abbrev dktX2_tickOnce_4 : List UInt8 := dkwX2_tickOnce_4 ++ dktX2_tickOnce_5
def dkwX2_tickOnce_3 : List UInt8 := [167, 255, 213, 3, 60, 27, 42, 180, 0, 12, 182, 0, 45, 162, 0, 37, 42, 180, 0, 12, 27, 182, 0, 49]
abbrev dktX2_tickOnce_3 : List UInt8 := dkwX2_tickOnce_3 ++ dktX2_tickOnce_4
def dkwX2_tickOnce_2 : List UInt8 := [192, 0, 53, 42, 42, 180, 0, 12, 27, 182, 0, 49, 192, 0, 53, 182, 0, 195, 181, 0, 199, 132, 1, 1]
abbrev dktX2_tickOnce_2 : List UInt8 := dkwX2_tickOnce_2 ++ dktX2_tickOnce_3
def dkwX2_tickOnce_1 : List UInt8 := [182, 0, 192, 3, 60, 27, 42, 180, 0, 12, 182, 0, 45, 162, 0, 38, 42, 180, 0, 12, 27, 182, 0, 49]
abbrev dktX2_tickOnce_1 : List UInt8 := dkwX2_tickOnce_1 ++ dktX2_tickOnce_2
def dkwX2_tickOnce_0 : List UInt8 := [42, 89, 180, 0, 74, 4, 96, 181, 0, 74, 42, 180, 0, 74, 42, 180, 0, 38, 112, 154, 0, 7, 42]
abbrev dktX2_tickOnce_0 : List UInt8 := dkwX2_tickOnce_0 ++ dktX2_tickOnce_1
theorem dksX2_tickOnce_0 : cX2_tickOnce.data.toList.drop 0 = dktX2_tickOnce_0 := by decide +kernel
theorem dksX2_tickOnce_1 : cX2_tickOnce.data.toList.drop 23 = dktX2_tickOnce_1 := dk_seg dksX2_tickOnce_0 23 rfl rfl
theorem dksX2_tickOnce_2 : cX2_tickOnce.data.toList.drop 47 = dktX2_tickOnce_2 := dk_seg dksX2_tickOnce_1 24 rfl rfl
theorem dksX2_tickOnce_3 : cX2_tickOnce.data.toList.drop 71 = dktX2_tickOnce_3 := dk_seg dksX2_tickOnce_2 24 rfl rfl
theorem dksX2_tickOnce_4 : cX2_tickOnce.data.toList.drop 95 = dktX2_tickOnce_4 := dk_seg dksX2_tickOnce_3 24 rfl rfl
theorem dksX2_tickOnce_5 : cX2_tickOnce.data.toList.drop 118 = dktX2_tickOnce_5 := dk_seg dksX2_tickOnce_4 23 rfl rfl
theorem dksX2_tickOnce_6 : cX2_tickOnce.data.toList.drop 141 = dktX2_tickOnce_6 := dk_seg dksX2_tickOnce_5 23 rfl rfl
theorem dksX2_tickOnce_7 : cX2_tickOnce.data.toList.drop 163 = dktX2_tickOnce_7 := dk_seg dksX2_tickOnce_6 22 rfl rfl
theorem dksX2_tickOnce_8 : cX2_tickOnce.data.toList.drop 187 = dktX2_tickOnce_8 := dk_seg dksX2_tickOnce_7 24 rfl rfl
theorem dksX2_tickOnce_9 : cX2_tickOnce.data.toList.drop 210 = dktX2_tickOnce_9 := dk_seg dksX2_tickOnce_8 23 rfl rfl
theorem dksX2_tickOnce_10 : cX2_tickOnce.data.toList.drop 234 = dktX2_tickOnce_10 := dk_seg dksX2_tickOnce_9 24 rfl rfl
theorem dX2_tickOnce_0 : decode cX2_tickOnce 0 = .ok (.aload_n 0, 1) := dk_42 (dk_at dksX2_tickOnce_0 0 rfl rfl)
theorem dX2_tickOnce_1 : decode cX2_tickOnce 1 = .ok (.dup, 1) := dk_89 (dk_at dksX2_tickOnce_0 1 rfl rfl)
theorem dX2_tickOnce_2 : decode cX2_tickOnce 2 = .ok (.getfield 74, 3) := dk_180 0 74 (dk_at dksX2_tickOnce_0 2 rfl rfl)
theorem dX2_tickOnce_5 : decode cX2_tickOnce 5 = .ok (.iconst 1, 1) := dk_4 (dk_at dksX2_tickOnce_0 5 rfl rfl)
theorem dX2_tickOnce_6 : decode cX2_tickOnce 6 = .ok (.iadd, 1) := dk_96 (dk_at dksX2_tickOnce_0 6 rfl rfl)
theorem dX2_tickOnce_7 : decode cX2_tickOnce 7 = .ok (.putfield 74, 3) := dk_181 0 74 (dk_at dksX2_tickOnce_0 7 rfl rfl)
theorem dX2_tickOnce_10 : decode cX2_tickOnce 10 = .ok (.aload_n 0, 1) := dk_42 (dk_at dksX2_tickOnce_0 10 rfl rfl)
theorem dX2_tickOnce_11 : decode cX2_tickOnce 11 = .ok (.getfield 74, 3) := dk_180 0 74 (dk_at dksX2_tickOnce_0 11 rfl rfl)
theorem dX2_tickOnce_14 : decode cX2_tickOnce 14 = .ok (.aload_n 0, 1) := dk_42 (dk_at dksX2_tickOnce_0 14 rfl rfl)
theorem dX2_tickOnce_15 : decode cX2_tickOnce 15 = .ok (.getfield 38, 3) := dk_180 0 38 (dk_at dksX2_tickOnce_0 15 rfl rfl)
theorem dX2_tickOnce_18 : decode cX2_tickOnce 18 = .ok (.irem, 1) := dk_112 (dk_at dksX2_tickOnce_0 18 rfl rfl)
theorem dX2_tickOnce_19 : decode cX2_tickOnce 19 = .ok (.ifCond .ne 7, 3) := dk_154 0 7 (dk_at dksX2_tickOnce_0 19 rfl rfl)
theorem dX2_tickOnce_22 : decode cX2_tickOnce 22 = .ok (.aload_n 0, 1) := dk_42 (dk_at dksX2_tickOnce_0 22 rfl rfl)
theorem dX2_tickOnce_23 : decode cX2_tickOnce 23 = .ok (.invokevirtual 192, 3) := dk_182 0 192 (dk_at dksX2_tickOnce_1 0 rfl rfl)
theorem dX2_tickOnce_26 : decode cX2_tickOnce 26 = .ok (.iconst 0, 1) := dk_3 (dk_at dksX2_tickOnce_1 3 rfl rfl)
theorem dX2_tickOnce_27 : decode cX2_tickOnce 27 = .ok (.istore_n 1, 1) := dk_60 (dk_at dksX2_tickOnce_1 4 rfl rfl)
theorem dX2_tickOnce_28 : decode cX2_tickOnce 28 = .ok (.iload_n 1, 1) := dk_27 (dk_at dksX2_tickOnce_1 5 rfl rfl)
theorem dX2_tickOnce_29 : decode cX2_tickOnce 29 = .ok (.aload_n 0, 1) := dk_42 (dk_at dksX2_tickOnce_1 6 rfl rfl)
theorem dX2_tickOnce_30 : decode cX2_tickOnce 30 = .ok (.getfield 12, 3) := dk_180 0 12 (dk_at dksX2_tickOnce_1 7 rfl rfl)
theorem dX2_tickOnce_33 : decode cX2_tickOnce 33 = .ok (.invokevirtual 45, 3) := dk_182 0 45 (dk_at dksX2_tickOnce_1 10 rfl rfl)
theorem dX2_tickOnce_36 : decode cX2_tickOnce 36 = .ok (.if_icmp .ge 38, 3) := dk_162 0 38 (dk_at dksX2_tickOnce_1 13 rfl rfl)
theorem dX2_tickOnce_39 : decode cX2_tickOnce 39 = .ok (.aload_n 0, 1) := dk_42 (dk_at dksX2_tickOnce_1 16 rfl rfl)
theorem dX2_tickOnce_40 : decode cX2_tickOnce 40 = .ok (.getfield 12, 3) := dk_180 0 12 (dk_at dksX2_tickOnce_1 17 rfl rfl)
theorem dX2_tickOnce_43 : decode cX2_tickOnce 43 = .ok (.iload_n 1, 1) := dk_27 (dk_at dksX2_tickOnce_1 20 rfl rfl)
theorem dX2_tickOnce_44 : decode cX2_tickOnce 44 = .ok (.invokevirtual 49, 3) := dk_182 0 49 (dk_at dksX2_tickOnce_1 21 rfl rfl)
theorem dX2_tickOnce_47 : decode cX2_tickOnce 47 = .ok (.checkcast 53, 3) := dk_192 0 53 (dk_at dksX2_tickOnce_2 0 rfl rfl)
theorem dX2_tickOnce_50 : decode cX2_tickOnce 50 = .ok (.aload_n 0, 1) := dk_42 (dk_at dksX2_tickOnce_2 3 rfl rfl)
theorem dX2_tickOnce_51 : decode cX2_tickOnce 51 = .ok (.aload_n 0, 1) := dk_42 (dk_at dksX2_tickOnce_2 4 rfl rfl)
theorem dX2_tickOnce_52 : decode cX2_tickOnce 52 = .ok (.getfield 12, 3) := dk_180 0 12 (dk_at dksX2_tickOnce_2 5 rfl rfl)
theorem dX2_tickOnce_55 : decode cX2_tickOnce 55 = .ok (.iload_n 1, 1) := dk_27 (dk_at dksX2_tickOnce_2 8 rfl rfl)
theorem dX2_tickOnce_56 : decode cX2_tickOnce 56 = .ok (.invokevirtual 49, 3) := dk_182 0 49 (dk_at dksX2_tickOnce_2 9 rfl rfl)
theorem dX2_tickOnce_59 : decode cX2_tickOnce 59 = .ok (.checkcast 53, 3) := dk_192 0 53 (dk_at dksX2_tickOnce_2 12 rfl rfl)
theorem dX2_tickOnce_62 : decode cX2_tickOnce 62 = .ok (.invokevirtual 195, 3) := dk_182 0 195 (dk_at dksX2_tickOnce_2 15 rfl rfl)
theorem dX2_tickOnce_65 : decode cX2_tickOnce 65 = .ok (.putfield 199, 3) := dk_181 0 199 (dk_at dksX2_tickOnce_2 18 rfl rfl)
theorem dX2_tickOnce_68 : decode cX2_tickOnce 68 = .ok (.iinc 1 1, 3) := dk_132 1 1 (dk_at dksX2_tickOnce_2 21 rfl rfl)
theorem dX2_tickOnce_71 : decode cX2_tickOnce 71 = .ok (.goto (-43), 3) := dk_167 255 213 (dk_at dksX2_tickOnce_3 0 rfl rfl)
theorem dX2_tickOnce_74 : decode cX2_tickOnce 74 = .ok (.iconst 0, 1) := dk_3 (dk_at dksX2_tickOnce_3 3 rfl rfl)
theorem dX2_tickOnce_75 : decode cX2_tickOnce 75 = .ok (.istore_n 1, 1) := dk_60 (dk_at dksX2_tickOnce_3 4 rfl rfl)
theorem dX2_tickOnce_76 : decode cX2_tickOnce 76 = .ok (.iload_n 1, 1) := dk_27 (dk_at dksX2_tickOnce_3 5 rfl rfl)
theorem dX2_tickOnce_77 : decode cX2_tickOnce 77 = .ok (.aload_n 0, 1) := dk_42 (dk_at dksX2_tickOnce_3 6 rfl rfl)
theorem dX2_tickOnce_78 : decode cX2_tickOnce 78 = .ok (.getfield 12, 3) := dk_180 0 12 (dk_at dksX2_tickOnce_3 7 rfl rfl)
theorem dX2_tickOnce_81 : decode cX2_tickOnce 81 = .ok (.invokevirtual 45, 3) := dk_182 0 45 (dk_at dksX2_tickOnce_3 10 rfl rfl)
theorem dX2_tickOnce_84 : decode cX2_tickOnce 84 = .ok (.if_icmp .ge 37, 3) := dk_162 0 37 (dk_at dksX2_tickOnce_3 13 rfl rfl)
theorem dX2_tickOnce_87 : decode cX2_tickOnce 87 = .ok (.aload_n 0, 1) := dk_42 (dk_at dksX2_tickOnce_3 16 rfl rfl)
theorem dX2_tickOnce_88 : decode cX2_tickOnce 88 = .ok (.getfield 12, 3) := dk_180 0 12 (dk_at dksX2_tickOnce_3 17 rfl rfl)
theorem dX2_tickOnce_91 : decode cX2_tickOnce 91 = .ok (.iload_n 1, 1) := dk_27 (dk_at dksX2_tickOnce_3 20 rfl rfl)
theorem dX2_tickOnce_92 : decode cX2_tickOnce 92 = .ok (.invokevirtual 49, 3) := dk_182 0 49 (dk_at dksX2_tickOnce_3 21 rfl rfl)
theorem dX2_tickOnce_95 : decode cX2_tickOnce 95 = .ok (.checkcast 53, 3) := dk_192 0 53 (dk_at dksX2_tickOnce_4 0 rfl rfl)
theorem dX2_tickOnce_98 : decode cX2_tickOnce 98 = .ok (.aload_n 0, 1) := dk_42 (dk_at dksX2_tickOnce_4 3 rfl rfl)
theorem dX2_tickOnce_99 : decode cX2_tickOnce 99 = .ok (.getfield 12, 3) := dk_180 0 12 (dk_at dksX2_tickOnce_4 4 rfl rfl)
theorem dX2_tickOnce_102 : decode cX2_tickOnce 102 = .ok (.iload_n 1, 1) := dk_27 (dk_at dksX2_tickOnce_4 7 rfl rfl)
theorem dX2_tickOnce_103 : decode cX2_tickOnce 103 = .ok (.invokevirtual 49, 3) := dk_182 0 49 (dk_at dksX2_tickOnce_4 8 rfl rfl)
theorem dX2_tickOnce_106 : decode cX2_tickOnce 106 = .ok (.checkcast 53, 3) := dk_192 0 53 (dk_at dksX2_tickOnce_4 11 rfl rfl)
theorem dX2_tickOnce_109 : decode cX2_tickOnce 109 = .ok (.getfield 199, 3) := dk_180 0 199 (dk_at dksX2_tickOnce_4 14 rfl rfl)
theorem dX2_tickOnce_112 : decode cX2_tickOnce 112 = .ok (.putfield 141, 3) := dk_181 0 141 (dk_at dksX2_tickOnce_4 17 rfl rfl)
theorem dX2_tickOnce_115 : decode cX2_tickOnce 115 = .ok (.iinc 1 1, 3) := dk_132 1 1 (dk_at dksX2_tickOnce_4 20 rfl rfl)
theorem dX2_tickOnce_118 : decode cX2_tickOnce 118 = .ok (.goto (-42), 3) := dk_167 255 214 (dk_at dksX2_tickOnce_5 0 rfl rfl)
theorem dX2_tickOnce_121 : decode cX2_tickOnce 121 = .ok (.aconst_null, 1) := dk_1 (dk_at dksX2_tickOnce_5 3 rfl rfl)
theorem dX2_tickOnce_122 : decode cX2_tickOnce 122 = .ok (.astore_n 1, 1) := dk_76 (dk_at dksX2_tickOnce_5 4 rfl rfl)
theorem dX2_tickOnce_123 : decode cX2_tickOnce 123 = .ok (.iconst 0, 1) := dk_3 (dk_at dksX2_tickOnce_5 5 rfl rfl)
theorem dX2_tickOnce_124 : decode cX2_tickOnce 124 = .ok (.istore_n 2, 1) := dk_61 (dk_at dksX2_tickOnce_5 6 rfl rfl)
theorem dX2_tickOnce_125 : decode cX2_tickOnce 125 = .ok (.iload_n 2, 1) := dk_28 (dk_at dksX2_tickOnce_5 7 rfl rfl)
theorem dX2_tickOnce_126 : decode cX2_tickOnce 126 = .ok (.aload_n 0, 1) := dk_42 (dk_at dksX2_tickOnce_5 8 rfl rfl)
theorem dX2_tickOnce_127 : decode cX2_tickOnce 127 = .ok (.getfield 18, 3) := dk_180 0 18 (dk_at dksX2_tickOnce_5 9 rfl rfl)
theorem dX2_tickOnce_130 : decode cX2_tickOnce 130 = .ok (.invokevirtual 45, 3) := dk_182 0 45 (dk_at dksX2_tickOnce_5 12 rfl rfl)
theorem dX2_tickOnce_133 : decode cX2_tickOnce 133 = .ok (.if_icmp .ge 101, 3) := dk_162 0 101 (dk_at dksX2_tickOnce_5 15 rfl rfl)
theorem dX2_tickOnce_136 : decode cX2_tickOnce 136 = .ok (.aload_n 0, 1) := dk_42 (dk_at dksX2_tickOnce_5 18 rfl rfl)
theorem dX2_tickOnce_137 : decode cX2_tickOnce 137 = .ok (.getfield 18, 3) := dk_180 0 18 (dk_at dksX2_tickOnce_5 19 rfl rfl)
theorem dX2_tickOnce_140 : decode cX2_tickOnce 140 = .ok (.iload_n 2, 1) := dk_28 (dk_at dksX2_tickOnce_5 22 rfl rfl)
theorem dX2_tickOnce_141 : decode cX2_tickOnce 141 = .ok (.invokevirtual 49, 3) := dk_182 0 49 (dk_at dksX2_tickOnce_6 0 rfl rfl)
theorem dX2_tickOnce_144 : decode cX2_tickOnce 144 = .ok (.checkcast 63, 3) := dk_192 0 63 (dk_at dksX2_tickOnce_6 3 rfl rfl)
theorem dX2_tickOnce_147 : decode cX2_tickOnce 147 = .ok (.astore_n 3, 1) := dk_78 (dk_at dksX2_tickOnce_6 6 rfl rfl)
theorem dX2_tickOnce_148 : decode cX2_tickOnce 148 = .ok (.aload_n 0, 1) := dk_42 (dk_at dksX2_tickOnce_6 7 rfl rfl)
theorem dX2_tickOnce_149 : decode cX2_tickOnce 149 = .ok (.aload_n 3, 1) := dk_45 (dk_at dksX2_tickOnce_6 8 rfl rfl)
theorem dX2_tickOnce_150 : decode cX2_tickOnce 150 = .ok (.iload_n 2, 1) := dk_28 (dk_at dksX2_tickOnce_6 9 rfl rfl)
theorem dX2_tickOnce_151 : decode cX2_tickOnce 151 = .ok (.aload_n 3, 1) := dk_45 (dk_at dksX2_tickOnce_6 10 rfl rfl)
theorem dX2_tickOnce_152 : decode cX2_tickOnce 152 = .ok (.getfield 202, 3) := dk_180 0 202 (dk_at dksX2_tickOnce_6 11 rfl rfl)
theorem dX2_tickOnce_155 : decode cX2_tickOnce 155 = .ok (.aload_n 0, 1) := dk_42 (dk_at dksX2_tickOnce_6 14 rfl rfl)
theorem dX2_tickOnce_156 : decode cX2_tickOnce 156 = .ok (.getfield 12, 3) := dk_180 0 12 (dk_at dksX2_tickOnce_6 15 rfl rfl)
theorem dX2_tickOnce_159 : decode cX2_tickOnce 159 = .ok (.aload_n 3, 1) := dk_45 (dk_at dksX2_tickOnce_6 18 rfl rfl)
theorem dX2_tickOnce_160 : decode cX2_tickOnce 160 = .ok (.getfield 206, 3) := dk_180 0 206 (dk_at dksX2_tickOnce_6 19 rfl rfl)
theorem dX2_tickOnce_163 : decode cX2_tickOnce 163 = .ok (.invokevirtual 49, 3) := dk_182 0 49 (dk_at dksX2_tickOnce_7 0 rfl rfl)
theorem dX2_tickOnce_166 : decode cX2_tickOnce 166 = .ok (.checkcast 53, 3) := dk_192 0 53 (dk_at dksX2_tickOnce_7 3 rfl rfl)
theorem dX2_tickOnce_169 : decode cX2_tickOnce 169 = .ok (.aload_n 0, 1) := dk_42 (dk_at dksX2_tickOnce_7 6 rfl rfl)
theorem dX2_tickOnce_170 : decode cX2_tickOnce 170 = .ok (.getfield 12, 3) := dk_180 0 12 (dk_at dksX2_tickOnce_7 7 rfl rfl)
theorem dX2_tickOnce_173 : decode cX2_tickOnce 173 = .ok (.aload_n 3, 1) := dk_45 (dk_at dksX2_tickOnce_7 10 rfl rfl)
theorem dX2_tickOnce_174 : decode cX2_tickOnce 174 = .ok (.getfield 209, 3) := dk_180 0 209 (dk_at dksX2_tickOnce_7 11 rfl rfl)
theorem dX2_tickOnce_177 : decode cX2_tickOnce 177 = .ok (.invokevirtual 49, 3) := dk_182 0 49 (dk_at dksX2_tickOnce_7 14 rfl rfl)
theorem dX2_tickOnce_180 : decode cX2_tickOnce 180 = .ok (.checkcast 53, 3) := dk_192 0 53 (dk_at dksX2_tickOnce_7 17 rfl rfl)
theorem dX2_tickOnce_183 : decode cX2_tickOnce 183 = .ok (.aload_n 1, 1) := dk_43 (dk_at dksX2_tickOnce_7 20 rfl rfl)
theorem dX2_tickOnce_184 : decode cX2_tickOnce 184 = .ok (.invokevirtual 212, 3) := dk_182 0 212 (dk_at dksX2_tickOnce_7 21 rfl rfl)
theorem dX2_tickOnce_187 : decode cX2_tickOnce 187 = .ok (.astore_n 1, 1) := dk_76 (dk_at dksX2_tickOnce_8 0 rfl rfl)
theorem dX2_tickOnce_188 : decode cX2_tickOnce 188 = .ok (.aload_n 0, 1) := dk_42 (dk_at dksX2_tickOnce_8 1 rfl rfl)
theorem dX2_tickOnce_189 : decode cX2_tickOnce 189 = .ok (.aload_n 3, 1) := dk_45 (dk_at dksX2_tickOnce_8 2 rfl rfl)
theorem dX2_tickOnce_190 : decode cX2_tickOnce 190 = .ok (.iload_n 2, 1) := dk_28 (dk_at dksX2_tickOnce_8 3 rfl rfl)
theorem dX2_tickOnce_191 : decode cX2_tickOnce 191 = .ok (.aload_n 3, 1) := dk_45 (dk_at dksX2_tickOnce_8 4 rfl rfl)
theorem dX2_tickOnce_192 : decode cX2_tickOnce 192 = .ok (.getfield 216, 3) := dk_180 0 216 (dk_at dksX2_tickOnce_8 5 rfl rfl)
theorem dX2_tickOnce_195 : decode cX2_tickOnce 195 = .ok (.aload_n 0, 1) := dk_42 (dk_at dksX2_tickOnce_8 8 rfl rfl)
theorem dX2_tickOnce_196 : decode cX2_tickOnce 196 = .ok (.getfield 12, 3) := dk_180 0 12 (dk_at dksX2_tickOnce_8 9 rfl rfl)
theorem dX2_tickOnce_199 : decode cX2_tickOnce 199 = .ok (.aload_n 3, 1) := dk_45 (dk_at dksX2_tickOnce_8 12 rfl rfl)
theorem dX2_tickOnce_200 : decode cX2_tickOnce 200 = .ok (.getfield 209, 3) := dk_180 0 209 (dk_at dksX2_tickOnce_8 13 rfl rfl)
theorem dX2_tickOnce_203 : decode cX2_tickOnce 203 = .ok (.invokevirtual 49, 3) := dk_182 0 49 (dk_at dksX2_tickOnce_8 16 rfl rfl)
theorem dX2_tickOnce_206 : decode cX2_tickOnce 206 = .ok (.checkcast 53, 3) := dk_192 0 53 (dk_at dksX2_tickOnce_8 19 rfl rfl)
theorem dX2_tickOnce_209 : decode cX2_tickOnce 209 = .ok (.aload_n 0, 1) := dk_42 (dk_at dksX2_tickOnce_8 22 rfl rfl)
theorem dX2_tickOnce_210 : decode cX2_tickOnce 210 = .ok (.getfield 12, 3) := dk_180 0 12 (dk_at dksX2_tickOnce_9 0 rfl rfl)
theorem dX2_tickOnce_213 : decode cX2_tickOnce 213 = .ok (.aload_n 3, 1) := dk_45 (dk_at dksX2_tickOnce_9 3 rfl rfl)
theorem dX2_tickOnce_214 : decode cX2_tickOnce 214 = .ok (.getfield 206, 3) := dk_180 0 206 (dk_at dksX2_tickOnce_9 4 rfl rfl)
theorem dX2_tickOnce_217 : decode cX2_tickOnce 217 = .ok (.invokevirtual 49, 3) := dk_182 0 49 (dk_at dksX2_tickOnce_9 7 rfl rfl)
theorem dX2_tickOnce_220 : decode cX2_tickOnce 220 = .ok (.checkcast 53, 3) := dk_192 0 53 (dk_at dksX2_tickOnce_9 10 rfl rfl)
theorem dX2_tickOnce_223 : decode cX2_tickOnce 223 = .ok (.aload_n 1, 1) := dk_43 (dk_at dksX2_tickOnce_9 13 rfl rfl)
theorem dX2_tickOnce_224 : decode cX2_tickOnce 224 = .ok (.invokevirtual 212, 3) := dk_182 0 212 (dk_at dksX2_tickOnce_9 14 rfl rfl)
theorem dX2_tickOnce_227 : decode cX2_tickOnce 227 = .ok (.astore_n 1, 1) := dk_76 (dk_at dksX2_tickOnce_9 17 rfl rfl)
theorem dX2_tickOnce_228 : decode cX2_tickOnce 228 = .ok (.iinc 2 1, 3) := dk_132 2 1 (dk_at dksX2_tickOnce_9 18 rfl rfl)
theorem dX2_tickOnce_231 : decode cX2_tickOnce 231 = .ok (.goto (-106), 3) := dk_167 255 150 (dk_at dksX2_tickOnce_9 21 rfl rfl)
theorem dX2_tickOnce_234 : decode cX2_tickOnce 234 = .ok (.aload_n 1, 1) := dk_43 (dk_at dksX2_tickOnce_10 0 rfl rfl)
theorem dX2_tickOnce_235 : decode cX2_tickOnce 235 = .ok (.ifnull 8, 3) := dk_198 0 8 (dk_at dksX2_tickOnce_10 1 rfl rfl)
theorem dX2_tickOnce_238 : decode cX2_tickOnce 238 = .ok (.aload_n 0, 1) := dk_42 (dk_at dksX2_tickOnce_10 4 rfl rfl)
theorem dX2_tickOnce_239 : decode cX2_tickOnce 239 = .ok (.aload_n 1, 1) := dk_43 (dk_at dksX2_tickOnce_10 5 rfl rfl)
theorem dX2_tickOnce_240 : decode cX2_tickOnce 240 = .ok (.invokevirtual 219, 3) := dk_182 0 219 (dk_at dksX2_tickOnce_10 6 rfl rfl)
theorem dX2_tickOnce_243 : decode cX2_tickOnce 243 = .ok (.return_, 1) := dk_177 (dk_at dksX2_tickOnce_10 9 rfl rfl)
abbrev cX2_hold : ByteArray := prog_5_method_20_code
def yX2_hold : MethodName := ⟨RX2, "hold", "()V"⟩
def dkwX2_hold_4 : List UInt8 := [182, 0, 49, 192, 0, 63, 42, 180, 0, 41, 182, 1, 15, 132, 1, 1, 167, 255, 224, 177]
abbrev dktX2_hold_4 : List UInt8 := dkwX2_hold_4 ++ []
def dkwX2_hold_3 : List UInt8 := [132, 1, 1, 167, 255, 227, 3, 60, 27, 42, 180, 0, 18, 182, 0, 45, 162, 0, 27, 42, 180, 0, 18, 27]
abbrev dktX2_hold_3 : List UInt8 := dkwX2_hold_3 ++ dktX2_hold_4
def dkwX2_hold_2 : List UInt8 := [180, 0, 18, 182, 0, 45, 162, 0, 24, 42, 42, 180, 0, 18, 27, 182, 0, 49, 192, 0, 63, 182, 1, 11]
abbrev dktX2_hold_2 : List UInt8 := dkwX2_hold_2 ++ dktX2_hold_3
def dkwX2_hold_1 : List UInt8 := [42, 180, 0, 25, 27, 46, 104, 16, 10, 108, 16, 20, 96, 79, 132, 1, 1, 167, 255, 227, 3, 60, 27, 42]
abbrev dktX2_hold_1 : List UInt8 := dkwX2_hold_1 ++ dktX2_hold_2
def dkwX2_hold_0 : List UInt8 := [42, 89, 180, 0, 77, 4, 96, 181, 0, 77, 3, 60, 27, 7, 162, 0, 30, 42, 180, 0, 25, 27, 16, 9]
abbrev dktX2_hold_0 : List UInt8 := dkwX2_hold_0 ++ dktX2_hold_1
theorem dksX2_hold_0 : cX2_hold.data.toList.drop 0 = dktX2_hold_0 := by decide +kernel
theorem dksX2_hold_1 : cX2_hold.data.toList.drop 24 = dktX2_hold_1 := dk_seg dksX2_hold_0 24 rfl rfl
theorem dksX2_hold_2 : cX2_hold.data.toList.drop 48 = dktX2_hold_2 := dk_seg dksX2_hold_1 24 rfl rfl
theorem dksX2_hold_3 : cX2_hold.data.toList.drop 72 = dktX2_hold_3 := dk_seg dksX2_hold_2 24 rfl rfl
theorem dksX2_hold_4 : cX2_hold.data.toList.drop 96 = dktX2_hold_4 := dk_seg dksX2_hold_3 24 rfl rfl
theorem dX2_hold_0 : decode cX2_hold 0 = .ok (.aload_n 0, 1) := dk_42 (dk_at dksX2_hold_0 0 rfl rfl)
theorem dX2_hold_1 : decode cX2_hold 1 = .ok (.dup, 1) := dk_89 (dk_at dksX2_hold_0 1 rfl rfl)
theorem dX2_hold_2 : decode cX2_hold 2 = .ok (.getfield 77, 3) := dk_180 0 77 (dk_at dksX2_hold_0 2 rfl rfl)
theorem dX2_hold_5 : decode cX2_hold 5 = .ok (.iconst 1, 1) := dk_4 (dk_at dksX2_hold_0 5 rfl rfl)
theorem dX2_hold_6 : decode cX2_hold 6 = .ok (.iadd, 1) := dk_96 (dk_at dksX2_hold_0 6 rfl rfl)
theorem dX2_hold_7 : decode cX2_hold 7 = .ok (.putfield 77, 3) := dk_181 0 77 (dk_at dksX2_hold_0 7 rfl rfl)
theorem dX2_hold_10 : decode cX2_hold 10 = .ok (.iconst 0, 1) := dk_3 (dk_at dksX2_hold_0 10 rfl rfl)
theorem dX2_hold_11 : decode cX2_hold 11 = .ok (.istore_n 1, 1) := dk_60 (dk_at dksX2_hold_0 11 rfl rfl)
theorem dX2_hold_12 : decode cX2_hold 12 = .ok (.iload_n 1, 1) := dk_27 (dk_at dksX2_hold_0 12 rfl rfl)
theorem dX2_hold_13 : decode cX2_hold 13 = .ok (.iconst 4, 1) := dk_7 (dk_at dksX2_hold_0 13 rfl rfl)
theorem dX2_hold_14 : decode cX2_hold 14 = .ok (.if_icmp .ge 30, 3) := dk_162 0 30 (dk_at dksX2_hold_0 14 rfl rfl)
theorem dX2_hold_17 : decode cX2_hold 17 = .ok (.aload_n 0, 1) := dk_42 (dk_at dksX2_hold_0 17 rfl rfl)
theorem dX2_hold_18 : decode cX2_hold 18 = .ok (.getfield 25, 3) := dk_180 0 25 (dk_at dksX2_hold_0 18 rfl rfl)
theorem dX2_hold_21 : decode cX2_hold 21 = .ok (.iload_n 1, 1) := dk_27 (dk_at dksX2_hold_0 21 rfl rfl)
theorem dX2_hold_22 : decode cX2_hold 22 = .ok (.bipush 9, 2) := dk_16 9 (dk_at dksX2_hold_0 22 rfl rfl)
theorem dX2_hold_24 : decode cX2_hold 24 = .ok (.aload_n 0, 1) := dk_42 (dk_at dksX2_hold_1 0 rfl rfl)
theorem dX2_hold_25 : decode cX2_hold 25 = .ok (.getfield 25, 3) := dk_180 0 25 (dk_at dksX2_hold_1 1 rfl rfl)
theorem dX2_hold_28 : decode cX2_hold 28 = .ok (.iload_n 1, 1) := dk_27 (dk_at dksX2_hold_1 4 rfl rfl)
theorem dX2_hold_29 : decode cX2_hold 29 = .ok (.iaload, 1) := dk_46 (dk_at dksX2_hold_1 5 rfl rfl)
theorem dX2_hold_30 : decode cX2_hold 30 = .ok (.imul, 1) := dk_104 (dk_at dksX2_hold_1 6 rfl rfl)
theorem dX2_hold_31 : decode cX2_hold 31 = .ok (.bipush 10, 2) := dk_16 10 (dk_at dksX2_hold_1 7 rfl rfl)
theorem dX2_hold_33 : decode cX2_hold 33 = .ok (.idiv, 1) := dk_108 (dk_at dksX2_hold_1 9 rfl rfl)
theorem dX2_hold_34 : decode cX2_hold 34 = .ok (.bipush 20, 2) := dk_16 20 (dk_at dksX2_hold_1 10 rfl rfl)
theorem dX2_hold_36 : decode cX2_hold 36 = .ok (.iadd, 1) := dk_96 (dk_at dksX2_hold_1 12 rfl rfl)
theorem dX2_hold_37 : decode cX2_hold 37 = .ok (.iastore, 1) := dk_79 (dk_at dksX2_hold_1 13 rfl rfl)
theorem dX2_hold_38 : decode cX2_hold 38 = .ok (.iinc 1 1, 3) := dk_132 1 1 (dk_at dksX2_hold_1 14 rfl rfl)
theorem dX2_hold_41 : decode cX2_hold 41 = .ok (.goto (-29), 3) := dk_167 255 227 (dk_at dksX2_hold_1 17 rfl rfl)
theorem dX2_hold_44 : decode cX2_hold 44 = .ok (.iconst 0, 1) := dk_3 (dk_at dksX2_hold_1 20 rfl rfl)
theorem dX2_hold_45 : decode cX2_hold 45 = .ok (.istore_n 1, 1) := dk_60 (dk_at dksX2_hold_1 21 rfl rfl)
theorem dX2_hold_46 : decode cX2_hold 46 = .ok (.iload_n 1, 1) := dk_27 (dk_at dksX2_hold_1 22 rfl rfl)
theorem dX2_hold_47 : decode cX2_hold 47 = .ok (.aload_n 0, 1) := dk_42 (dk_at dksX2_hold_1 23 rfl rfl)
theorem dX2_hold_48 : decode cX2_hold 48 = .ok (.getfield 18, 3) := dk_180 0 18 (dk_at dksX2_hold_2 0 rfl rfl)
theorem dX2_hold_51 : decode cX2_hold 51 = .ok (.invokevirtual 45, 3) := dk_182 0 45 (dk_at dksX2_hold_2 3 rfl rfl)
theorem dX2_hold_54 : decode cX2_hold 54 = .ok (.if_icmp .ge 24, 3) := dk_162 0 24 (dk_at dksX2_hold_2 6 rfl rfl)
theorem dX2_hold_57 : decode cX2_hold 57 = .ok (.aload_n 0, 1) := dk_42 (dk_at dksX2_hold_2 9 rfl rfl)
theorem dX2_hold_58 : decode cX2_hold 58 = .ok (.aload_n 0, 1) := dk_42 (dk_at dksX2_hold_2 10 rfl rfl)
theorem dX2_hold_59 : decode cX2_hold 59 = .ok (.getfield 18, 3) := dk_180 0 18 (dk_at dksX2_hold_2 11 rfl rfl)
theorem dX2_hold_62 : decode cX2_hold 62 = .ok (.iload_n 1, 1) := dk_27 (dk_at dksX2_hold_2 14 rfl rfl)
theorem dX2_hold_63 : decode cX2_hold 63 = .ok (.invokevirtual 49, 3) := dk_182 0 49 (dk_at dksX2_hold_2 15 rfl rfl)
theorem dX2_hold_66 : decode cX2_hold 66 = .ok (.checkcast 63, 3) := dk_192 0 63 (dk_at dksX2_hold_2 18 rfl rfl)
theorem dX2_hold_69 : decode cX2_hold 69 = .ok (.invokevirtual 267, 3) := dk_182 1 11 (dk_at dksX2_hold_2 21 rfl rfl)
theorem dX2_hold_72 : decode cX2_hold 72 = .ok (.iinc 1 1, 3) := dk_132 1 1 (dk_at dksX2_hold_3 0 rfl rfl)
theorem dX2_hold_75 : decode cX2_hold 75 = .ok (.goto (-29), 3) := dk_167 255 227 (dk_at dksX2_hold_3 3 rfl rfl)
theorem dX2_hold_78 : decode cX2_hold 78 = .ok (.iconst 0, 1) := dk_3 (dk_at dksX2_hold_3 6 rfl rfl)
theorem dX2_hold_79 : decode cX2_hold 79 = .ok (.istore_n 1, 1) := dk_60 (dk_at dksX2_hold_3 7 rfl rfl)
theorem dX2_hold_80 : decode cX2_hold 80 = .ok (.iload_n 1, 1) := dk_27 (dk_at dksX2_hold_3 8 rfl rfl)
theorem dX2_hold_81 : decode cX2_hold 81 = .ok (.aload_n 0, 1) := dk_42 (dk_at dksX2_hold_3 9 rfl rfl)
theorem dX2_hold_82 : decode cX2_hold 82 = .ok (.getfield 18, 3) := dk_180 0 18 (dk_at dksX2_hold_3 10 rfl rfl)
theorem dX2_hold_85 : decode cX2_hold 85 = .ok (.invokevirtual 45, 3) := dk_182 0 45 (dk_at dksX2_hold_3 13 rfl rfl)
theorem dX2_hold_88 : decode cX2_hold 88 = .ok (.if_icmp .ge 27, 3) := dk_162 0 27 (dk_at dksX2_hold_3 16 rfl rfl)
theorem dX2_hold_91 : decode cX2_hold 91 = .ok (.aload_n 0, 1) := dk_42 (dk_at dksX2_hold_3 19 rfl rfl)
theorem dX2_hold_92 : decode cX2_hold 92 = .ok (.getfield 18, 3) := dk_180 0 18 (dk_at dksX2_hold_3 20 rfl rfl)
theorem dX2_hold_95 : decode cX2_hold 95 = .ok (.iload_n 1, 1) := dk_27 (dk_at dksX2_hold_3 23 rfl rfl)
theorem dX2_hold_96 : decode cX2_hold 96 = .ok (.invokevirtual 49, 3) := dk_182 0 49 (dk_at dksX2_hold_4 0 rfl rfl)
theorem dX2_hold_99 : decode cX2_hold 99 = .ok (.checkcast 63, 3) := dk_192 0 63 (dk_at dksX2_hold_4 3 rfl rfl)
theorem dX2_hold_102 : decode cX2_hold 102 = .ok (.aload_n 0, 1) := dk_42 (dk_at dksX2_hold_4 6 rfl rfl)
theorem dX2_hold_103 : decode cX2_hold 103 = .ok (.getfield 41, 3) := dk_180 0 41 (dk_at dksX2_hold_4 7 rfl rfl)
theorem dX2_hold_106 : decode cX2_hold 106 = .ok (.invokevirtual 271, 3) := dk_182 1 15 (dk_at dksX2_hold_4 10 rfl rfl)
theorem dX2_hold_109 : decode cX2_hold 109 = .ok (.iinc 1 1, 3) := dk_132 1 1 (dk_at dksX2_hold_4 13 rfl rfl)
theorem dX2_hold_112 : decode cX2_hold 112 = .ok (.goto (-32), 3) := dk_167 255 224 (dk_at dksX2_hold_4 16 rfl rfl)
theorem dX2_hold_115 : decode cX2_hold 115 = .ok (.return_, 1) := dk_177 (dk_at dksX2_hold_4 19 rfl rfl)
abbrev cX2_sell : ByteArray := prog_5_method_21_code
def yX2_sell : MethodName := ⟨RX2, "sell", "(LBridgeAuction$Link;)V"⟩
def dkwX2_sell_6 : List UInt8 := [180, 0, 163, 92, 46, 43, 180, 0, 166, 96, 79, 177]
abbrev dktX2_sell_6 : List UInt8 := dkwX2_sell_6 ++ []
def dkwX2_sell_5 : List UInt8 := [159, 0, 35, 42, 180, 0, 25, 43, 180, 0, 163, 92, 46, 43, 180, 0, 166, 100, 79, 42, 180, 0, 28, 43]
abbrev dktX2_sell_5 : List UInt8 := dkwX2_sell_5 ++ dktX2_sell_6
def dkwX2_sell_4 : List UInt8 := [180, 0, 163, 2, 160, 0, 7, 3, 167, 0, 8, 4, 29, 184, 1, 18, 181, 0, 166, 43, 180, 0, 163, 2]
abbrev dktX2_sell_4 : List UInt8 := dkwX2_sell_4 ++ dktX2_sell_5
def dkwX2_sell_3 : List UInt8 := [181, 0, 163, 167, 0, 12, 21, 5, 29, 164, 0, 6, 21, 5, 62, 132, 4, 1, 167, 255, 181, 43, 43]
abbrev dktX2_sell_3 : List UInt8 := dkwX2_sell_3 ++ dktX2_sell_4
def dkwX2_sell_2 : List UInt8 := [21, 4, 46, 167, 0, 4, 3, 54, 5, 21, 5, 28, 164, 0, 17, 28, 62, 21, 5, 61, 43, 21, 4]
abbrev dktX2_sell_2 : List UInt8 := dkwX2_sell_2 ++ dktX2_sell_3
def dkwX2_sell_1 : List UInt8 := [153, 0, 68, 43, 180, 0, 182, 21, 4, 46, 42, 180, 0, 25, 21, 4, 46, 163, 0, 13, 43, 180, 0, 182]
abbrev dktX2_sell_1 : List UInt8 := dkwX2_sell_1 ++ dktX2_sell_2
def dkwX2_sell_0 : List UInt8 := [43, 2, 181, 0, 163, 3, 61, 3, 62, 3, 54, 4, 21, 4, 7, 162, 0, 75, 43, 180, 0, 157]
abbrev dktX2_sell_0 : List UInt8 := dkwX2_sell_0 ++ dktX2_sell_1
theorem dksX2_sell_0 : cX2_sell.data.toList.drop 0 = dktX2_sell_0 := by decide +kernel
theorem dksX2_sell_1 : cX2_sell.data.toList.drop 22 = dktX2_sell_1 := dk_seg dksX2_sell_0 22 rfl rfl
theorem dksX2_sell_2 : cX2_sell.data.toList.drop 46 = dktX2_sell_2 := dk_seg dksX2_sell_1 24 rfl rfl
theorem dksX2_sell_3 : cX2_sell.data.toList.drop 69 = dktX2_sell_3 := dk_seg dksX2_sell_2 23 rfl rfl
theorem dksX2_sell_4 : cX2_sell.data.toList.drop 92 = dktX2_sell_4 := dk_seg dksX2_sell_3 23 rfl rfl
theorem dksX2_sell_5 : cX2_sell.data.toList.drop 116 = dktX2_sell_5 := dk_seg dksX2_sell_4 24 rfl rfl
theorem dksX2_sell_6 : cX2_sell.data.toList.drop 140 = dktX2_sell_6 := dk_seg dksX2_sell_5 24 rfl rfl
theorem dX2_sell_0 : decode cX2_sell 0 = .ok (.aload_n 1, 1) := dk_43 (dk_at dksX2_sell_0 0 rfl rfl)
theorem dX2_sell_1 : decode cX2_sell 1 = .ok (.iconst (-1), 1) := dk_2 (dk_at dksX2_sell_0 1 rfl rfl)
theorem dX2_sell_2 : decode cX2_sell 2 = .ok (.putfield 163, 3) := dk_181 0 163 (dk_at dksX2_sell_0 2 rfl rfl)
theorem dX2_sell_5 : decode cX2_sell 5 = .ok (.iconst 0, 1) := dk_3 (dk_at dksX2_sell_0 5 rfl rfl)
theorem dX2_sell_6 : decode cX2_sell 6 = .ok (.istore_n 2, 1) := dk_61 (dk_at dksX2_sell_0 6 rfl rfl)
theorem dX2_sell_7 : decode cX2_sell 7 = .ok (.iconst 0, 1) := dk_3 (dk_at dksX2_sell_0 7 rfl rfl)
theorem dX2_sell_8 : decode cX2_sell 8 = .ok (.istore_n 3, 1) := dk_62 (dk_at dksX2_sell_0 8 rfl rfl)
theorem dX2_sell_9 : decode cX2_sell 9 = .ok (.iconst 0, 1) := dk_3 (dk_at dksX2_sell_0 9 rfl rfl)
theorem dX2_sell_10 : decode cX2_sell 10 = .ok (.istore 4, 2) := dk_54 4 (dk_at dksX2_sell_0 10 rfl rfl)
theorem dX2_sell_12 : decode cX2_sell 12 = .ok (.iload 4, 2) := dk_21 4 (dk_at dksX2_sell_0 12 rfl rfl)
theorem dX2_sell_14 : decode cX2_sell 14 = .ok (.iconst 4, 1) := dk_7 (dk_at dksX2_sell_0 14 rfl rfl)
theorem dX2_sell_15 : decode cX2_sell 15 = .ok (.if_icmp .ge 75, 3) := dk_162 0 75 (dk_at dksX2_sell_0 15 rfl rfl)
theorem dX2_sell_18 : decode cX2_sell 18 = .ok (.aload_n 1, 1) := dk_43 (dk_at dksX2_sell_0 18 rfl rfl)
theorem dX2_sell_19 : decode cX2_sell 19 = .ok (.getfield 157, 3) := dk_180 0 157 (dk_at dksX2_sell_0 19 rfl rfl)
theorem dX2_sell_22 : decode cX2_sell 22 = .ok (.ifCond .eq 68, 3) := dk_153 0 68 (dk_at dksX2_sell_1 0 rfl rfl)
theorem dX2_sell_25 : decode cX2_sell 25 = .ok (.aload_n 1, 1) := dk_43 (dk_at dksX2_sell_1 3 rfl rfl)
theorem dX2_sell_26 : decode cX2_sell 26 = .ok (.getfield 182, 3) := dk_180 0 182 (dk_at dksX2_sell_1 4 rfl rfl)
theorem dX2_sell_29 : decode cX2_sell 29 = .ok (.iload 4, 2) := dk_21 4 (dk_at dksX2_sell_1 7 rfl rfl)
theorem dX2_sell_31 : decode cX2_sell 31 = .ok (.iaload, 1) := dk_46 (dk_at dksX2_sell_1 9 rfl rfl)
theorem dX2_sell_32 : decode cX2_sell 32 = .ok (.aload_n 0, 1) := dk_42 (dk_at dksX2_sell_1 10 rfl rfl)
theorem dX2_sell_33 : decode cX2_sell 33 = .ok (.getfield 25, 3) := dk_180 0 25 (dk_at dksX2_sell_1 11 rfl rfl)
theorem dX2_sell_36 : decode cX2_sell 36 = .ok (.iload 4, 2) := dk_21 4 (dk_at dksX2_sell_1 14 rfl rfl)
theorem dX2_sell_38 : decode cX2_sell 38 = .ok (.iaload, 1) := dk_46 (dk_at dksX2_sell_1 16 rfl rfl)
theorem dX2_sell_39 : decode cX2_sell 39 = .ok (.if_icmp .gt 13, 3) := dk_163 0 13 (dk_at dksX2_sell_1 17 rfl rfl)
theorem dX2_sell_42 : decode cX2_sell 42 = .ok (.aload_n 1, 1) := dk_43 (dk_at dksX2_sell_1 20 rfl rfl)
theorem dX2_sell_43 : decode cX2_sell 43 = .ok (.getfield 182, 3) := dk_180 0 182 (dk_at dksX2_sell_1 21 rfl rfl)
theorem dX2_sell_46 : decode cX2_sell 46 = .ok (.iload 4, 2) := dk_21 4 (dk_at dksX2_sell_2 0 rfl rfl)
theorem dX2_sell_48 : decode cX2_sell 48 = .ok (.iaload, 1) := dk_46 (dk_at dksX2_sell_2 2 rfl rfl)
theorem dX2_sell_49 : decode cX2_sell 49 = .ok (.goto 4, 3) := dk_167 0 4 (dk_at dksX2_sell_2 3 rfl rfl)
theorem dX2_sell_52 : decode cX2_sell 52 = .ok (.iconst 0, 1) := dk_3 (dk_at dksX2_sell_2 6 rfl rfl)
theorem dX2_sell_53 : decode cX2_sell 53 = .ok (.istore 5, 2) := dk_54 5 (dk_at dksX2_sell_2 7 rfl rfl)
theorem dX2_sell_55 : decode cX2_sell 55 = .ok (.iload 5, 2) := dk_21 5 (dk_at dksX2_sell_2 9 rfl rfl)
theorem dX2_sell_57 : decode cX2_sell 57 = .ok (.iload_n 2, 1) := dk_28 (dk_at dksX2_sell_2 11 rfl rfl)
theorem dX2_sell_58 : decode cX2_sell 58 = .ok (.if_icmp .le 17, 3) := dk_164 0 17 (dk_at dksX2_sell_2 12 rfl rfl)
theorem dX2_sell_61 : decode cX2_sell 61 = .ok (.iload_n 2, 1) := dk_28 (dk_at dksX2_sell_2 15 rfl rfl)
theorem dX2_sell_62 : decode cX2_sell 62 = .ok (.istore_n 3, 1) := dk_62 (dk_at dksX2_sell_2 16 rfl rfl)
theorem dX2_sell_63 : decode cX2_sell 63 = .ok (.iload 5, 2) := dk_21 5 (dk_at dksX2_sell_2 17 rfl rfl)
theorem dX2_sell_65 : decode cX2_sell 65 = .ok (.istore_n 2, 1) := dk_61 (dk_at dksX2_sell_2 19 rfl rfl)
theorem dX2_sell_66 : decode cX2_sell 66 = .ok (.aload_n 1, 1) := dk_43 (dk_at dksX2_sell_2 20 rfl rfl)
theorem dX2_sell_67 : decode cX2_sell 67 = .ok (.iload 4, 2) := dk_21 4 (dk_at dksX2_sell_2 21 rfl rfl)
theorem dX2_sell_69 : decode cX2_sell 69 = .ok (.putfield 163, 3) := dk_181 0 163 (dk_at dksX2_sell_3 0 rfl rfl)
theorem dX2_sell_72 : decode cX2_sell 72 = .ok (.goto 12, 3) := dk_167 0 12 (dk_at dksX2_sell_3 3 rfl rfl)
theorem dX2_sell_75 : decode cX2_sell 75 = .ok (.iload 5, 2) := dk_21 5 (dk_at dksX2_sell_3 6 rfl rfl)
theorem dX2_sell_77 : decode cX2_sell 77 = .ok (.iload_n 3, 1) := dk_29 (dk_at dksX2_sell_3 8 rfl rfl)
theorem dX2_sell_78 : decode cX2_sell 78 = .ok (.if_icmp .le 6, 3) := dk_164 0 6 (dk_at dksX2_sell_3 9 rfl rfl)
theorem dX2_sell_81 : decode cX2_sell 81 = .ok (.iload 5, 2) := dk_21 5 (dk_at dksX2_sell_3 12 rfl rfl)
theorem dX2_sell_83 : decode cX2_sell 83 = .ok (.istore_n 3, 1) := dk_62 (dk_at dksX2_sell_3 14 rfl rfl)
theorem dX2_sell_84 : decode cX2_sell 84 = .ok (.iinc 4 1, 3) := dk_132 4 1 (dk_at dksX2_sell_3 15 rfl rfl)
theorem dX2_sell_87 : decode cX2_sell 87 = .ok (.goto (-75), 3) := dk_167 255 181 (dk_at dksX2_sell_3 18 rfl rfl)
theorem dX2_sell_90 : decode cX2_sell 90 = .ok (.aload_n 1, 1) := dk_43 (dk_at dksX2_sell_3 21 rfl rfl)
theorem dX2_sell_91 : decode cX2_sell 91 = .ok (.aload_n 1, 1) := dk_43 (dk_at dksX2_sell_3 22 rfl rfl)
theorem dX2_sell_92 : decode cX2_sell 92 = .ok (.getfield 163, 3) := dk_180 0 163 (dk_at dksX2_sell_4 0 rfl rfl)
theorem dX2_sell_95 : decode cX2_sell 95 = .ok (.iconst (-1), 1) := dk_2 (dk_at dksX2_sell_4 3 rfl rfl)
theorem dX2_sell_96 : decode cX2_sell 96 = .ok (.if_icmp .ne 7, 3) := dk_160 0 7 (dk_at dksX2_sell_4 4 rfl rfl)
theorem dX2_sell_99 : decode cX2_sell 99 = .ok (.iconst 0, 1) := dk_3 (dk_at dksX2_sell_4 7 rfl rfl)
theorem dX2_sell_100 : decode cX2_sell 100 = .ok (.goto 8, 3) := dk_167 0 8 (dk_at dksX2_sell_4 8 rfl rfl)
theorem dX2_sell_103 : decode cX2_sell 103 = .ok (.iconst 1, 1) := dk_4 (dk_at dksX2_sell_4 11 rfl rfl)
theorem dX2_sell_104 : decode cX2_sell 104 = .ok (.iload_n 3, 1) := dk_29 (dk_at dksX2_sell_4 12 rfl rfl)
theorem dX2_sell_105 : decode cX2_sell 105 = .ok (.invokestatic 274, 3) := dk_184 1 18 (dk_at dksX2_sell_4 13 rfl rfl)
theorem dX2_sell_108 : decode cX2_sell 108 = .ok (.putfield 166, 3) := dk_181 0 166 (dk_at dksX2_sell_4 16 rfl rfl)
theorem dX2_sell_111 : decode cX2_sell 111 = .ok (.aload_n 1, 1) := dk_43 (dk_at dksX2_sell_4 19 rfl rfl)
theorem dX2_sell_112 : decode cX2_sell 112 = .ok (.getfield 163, 3) := dk_180 0 163 (dk_at dksX2_sell_4 20 rfl rfl)
theorem dX2_sell_115 : decode cX2_sell 115 = .ok (.iconst (-1), 1) := dk_2 (dk_at dksX2_sell_4 23 rfl rfl)
theorem dX2_sell_116 : decode cX2_sell 116 = .ok (.if_icmp .eq 35, 3) := dk_159 0 35 (dk_at dksX2_sell_5 0 rfl rfl)
theorem dX2_sell_119 : decode cX2_sell 119 = .ok (.aload_n 0, 1) := dk_42 (dk_at dksX2_sell_5 3 rfl rfl)
theorem dX2_sell_120 : decode cX2_sell 120 = .ok (.getfield 25, 3) := dk_180 0 25 (dk_at dksX2_sell_5 4 rfl rfl)
theorem dX2_sell_123 : decode cX2_sell 123 = .ok (.aload_n 1, 1) := dk_43 (dk_at dksX2_sell_5 7 rfl rfl)
theorem dX2_sell_124 : decode cX2_sell 124 = .ok (.getfield 163, 3) := dk_180 0 163 (dk_at dksX2_sell_5 8 rfl rfl)
theorem dX2_sell_127 : decode cX2_sell 127 = .ok (.dup2, 1) := dk_92 (dk_at dksX2_sell_5 11 rfl rfl)
theorem dX2_sell_128 : decode cX2_sell 128 = .ok (.iaload, 1) := dk_46 (dk_at dksX2_sell_5 12 rfl rfl)
theorem dX2_sell_129 : decode cX2_sell 129 = .ok (.aload_n 1, 1) := dk_43 (dk_at dksX2_sell_5 13 rfl rfl)
theorem dX2_sell_130 : decode cX2_sell 130 = .ok (.getfield 166, 3) := dk_180 0 166 (dk_at dksX2_sell_5 14 rfl rfl)
theorem dX2_sell_133 : decode cX2_sell 133 = .ok (.isub, 1) := dk_100 (dk_at dksX2_sell_5 17 rfl rfl)
theorem dX2_sell_134 : decode cX2_sell 134 = .ok (.iastore, 1) := dk_79 (dk_at dksX2_sell_5 18 rfl rfl)
theorem dX2_sell_135 : decode cX2_sell 135 = .ok (.aload_n 0, 1) := dk_42 (dk_at dksX2_sell_5 19 rfl rfl)
theorem dX2_sell_136 : decode cX2_sell 136 = .ok (.getfield 28, 3) := dk_180 0 28 (dk_at dksX2_sell_5 20 rfl rfl)
theorem dX2_sell_139 : decode cX2_sell 139 = .ok (.aload_n 1, 1) := dk_43 (dk_at dksX2_sell_5 23 rfl rfl)
theorem dX2_sell_140 : decode cX2_sell 140 = .ok (.getfield 163, 3) := dk_180 0 163 (dk_at dksX2_sell_6 0 rfl rfl)
theorem dX2_sell_143 : decode cX2_sell 143 = .ok (.dup2, 1) := dk_92 (dk_at dksX2_sell_6 3 rfl rfl)
theorem dX2_sell_144 : decode cX2_sell 144 = .ok (.iaload, 1) := dk_46 (dk_at dksX2_sell_6 4 rfl rfl)
theorem dX2_sell_145 : decode cX2_sell 145 = .ok (.aload_n 1, 1) := dk_43 (dk_at dksX2_sell_6 5 rfl rfl)
theorem dX2_sell_146 : decode cX2_sell 146 = .ok (.getfield 166, 3) := dk_180 0 166 (dk_at dksX2_sell_6 6 rfl rfl)
theorem dX2_sell_149 : decode cX2_sell 149 = .ok (.iadd, 1) := dk_96 (dk_at dksX2_sell_6 9 rfl rfl)
theorem dX2_sell_150 : decode cX2_sell 150 = .ok (.iastore, 1) := dk_79 (dk_at dksX2_sell_6 10 rfl rfl)
theorem dX2_sell_151 : decode cX2_sell 151 = .ok (.return_, 1) := dk_177 (dk_at dksX2_sell_6 11 rfl rfl)
abbrev cX2_findVector : ByteArray := prog_5_method_16_code
def yX2_findVector : MethodName := ⟨RX2, "findVector", "(LBridgeAuction$Bridge;)LBridgeAuction$Vector;"⟩
def dkwX2_findVector_10 : List UInt8 := [132, 7, 1, 167, 255, 39, 43, 180, 0, 141, 28, 29, 21, 4, 21, 5, 21, 6, 182, 0, 243, 176]
abbrev dktX2_findVector_10 : List UInt8 := dkwX2_findVector_10 ++ []
def dkwX2_findVector_9 : List UInt8 := [25, 9, 182, 0, 132, 54, 4, 25, 9, 180, 0, 141, 180, 0, 233, 4, 96, 54, 5, 21, 7, 54, 6]
abbrev dktX2_findVector_9 : List UInt8 := dkwX2_findVector_9 ++ dktX2_findVector_10
def dkwX2_findVector_8 : List UInt8 := [4, 167, 0, 4, 3, 54, 11, 21, 11, 153, 0, 38, 25, 9, 180, 0, 141, 180, 0, 240, 61, 21, 10, 62]
abbrev dktX2_findVector_8 : List UInt8 := dkwX2_findVector_8 ++ dktX2_findVector_9
def dkwX2_findVector_7 : List UInt8 := [21, 10, 29, 162, 0, 7, 4, 167, 0, 22, 3, 167, 0, 18, 25, 9, 182, 0, 132, 21, 4, 162, 0, 7]
abbrev dktX2_findVector_7 : List UInt8 := dkwX2_findVector_7 ++ dktX2_findVector_8
def dkwX2_findVector_6 : List UInt8 := [180, 0, 141, 180, 0, 240, 28, 162, 0, 7, 4, 167, 0, 42, 3, 167, 0, 38, 21, 10, 29, 159, 0, 17]
abbrev dktX2_findVector_6 : List UInt8 := dkwX2_findVector_6 ++ dktX2_findVector_7
def dkwX2_findVector_5 : List UInt8 := [25, 8, 180, 0, 239, 96, 54, 10, 25, 9, 180, 0, 141, 180, 0, 240, 28, 159, 0, 23, 25, 9]
abbrev dktX2_findVector_5 : List UInt8 := dkwX2_findVector_5 ++ dktX2_findVector_6
def dkwX2_findVector_4 : List UInt8 := [198, 0, 141, 25, 9, 180, 0, 141, 180, 0, 233, 16, 10, 162, 0, 128, 25, 9, 180, 0, 141, 180, 0, 236]
abbrev dktX2_findVector_4 : List UInt8 := dkwX2_findVector_4 ++ dktX2_findVector_5
def dkwX2_findVector_3 : List UInt8 := [25, 8, 43, 180, 0, 223, 182, 0, 229, 182, 0, 49, 192, 0, 53, 167, 0, 4, 1, 58, 9, 25, 9]
abbrev dktX2_findVector_3 : List UInt8 := dkwX2_findVector_3 ++ dktX2_findVector_4
def dkwX2_findVector_2 : List UInt8 := [25, 8, 180, 0, 157, 153, 0, 37, 25, 8, 43, 180, 0, 223, 182, 0, 226, 153, 0, 25, 42, 180, 0, 12]
abbrev dktX2_findVector_2 : List UInt8 := dkwX2_findVector_2 ++ dktX2_findVector_3
def dkwX2_findVector_1 : List UInt8 := [42, 180, 0, 18, 182, 0, 45, 162, 0, 211, 42, 180, 0, 18, 21, 7, 182, 0, 49, 192, 0, 63, 58, 8]
abbrev dktX2_findVector_1 : List UInt8 := dkwX2_findVector_1 ++ dktX2_findVector_2
def dkwX2_findVector_0 : List UInt8 := [43, 182, 0, 132, 61, 3, 62, 43, 182, 0, 132, 54, 4, 3, 54, 5, 2, 54, 6, 3, 54, 7, 21, 7]
abbrev dktX2_findVector_0 : List UInt8 := dkwX2_findVector_0 ++ dktX2_findVector_1
theorem dksX2_findVector_0 : cX2_findVector.data.toList.drop 0 = dktX2_findVector_0 := by decide +kernel
theorem dksX2_findVector_1 : cX2_findVector.data.toList.drop 24 = dktX2_findVector_1 := dk_seg dksX2_findVector_0 24 rfl rfl
theorem dksX2_findVector_2 : cX2_findVector.data.toList.drop 48 = dktX2_findVector_2 := dk_seg dksX2_findVector_1 24 rfl rfl
theorem dksX2_findVector_3 : cX2_findVector.data.toList.drop 72 = dktX2_findVector_3 := dk_seg dksX2_findVector_2 24 rfl rfl
theorem dksX2_findVector_4 : cX2_findVector.data.toList.drop 95 = dktX2_findVector_4 := dk_seg dksX2_findVector_3 23 rfl rfl
theorem dksX2_findVector_5 : cX2_findVector.data.toList.drop 119 = dktX2_findVector_5 := dk_seg dksX2_findVector_4 24 rfl rfl
theorem dksX2_findVector_6 : cX2_findVector.data.toList.drop 141 = dktX2_findVector_6 := dk_seg dksX2_findVector_5 22 rfl rfl
theorem dksX2_findVector_7 : cX2_findVector.data.toList.drop 165 = dktX2_findVector_7 := dk_seg dksX2_findVector_6 24 rfl rfl
theorem dksX2_findVector_8 : cX2_findVector.data.toList.drop 189 = dktX2_findVector_8 := dk_seg dksX2_findVector_7 24 rfl rfl
theorem dksX2_findVector_9 : cX2_findVector.data.toList.drop 213 = dktX2_findVector_9 := dk_seg dksX2_findVector_8 24 rfl rfl
theorem dksX2_findVector_10 : cX2_findVector.data.toList.drop 236 = dktX2_findVector_10 := dk_seg dksX2_findVector_9 23 rfl rfl
theorem dX2_findVector_0 : decode cX2_findVector 0 = .ok (.aload_n 1, 1) := dk_43 (dk_at dksX2_findVector_0 0 rfl rfl)
theorem dX2_findVector_1 : decode cX2_findVector 1 = .ok (.invokevirtual 132, 3) := dk_182 0 132 (dk_at dksX2_findVector_0 1 rfl rfl)
theorem dX2_findVector_4 : decode cX2_findVector 4 = .ok (.istore_n 2, 1) := dk_61 (dk_at dksX2_findVector_0 4 rfl rfl)
theorem dX2_findVector_5 : decode cX2_findVector 5 = .ok (.iconst 0, 1) := dk_3 (dk_at dksX2_findVector_0 5 rfl rfl)
theorem dX2_findVector_6 : decode cX2_findVector 6 = .ok (.istore_n 3, 1) := dk_62 (dk_at dksX2_findVector_0 6 rfl rfl)
theorem dX2_findVector_7 : decode cX2_findVector 7 = .ok (.aload_n 1, 1) := dk_43 (dk_at dksX2_findVector_0 7 rfl rfl)
theorem dX2_findVector_8 : decode cX2_findVector 8 = .ok (.invokevirtual 132, 3) := dk_182 0 132 (dk_at dksX2_findVector_0 8 rfl rfl)
theorem dX2_findVector_11 : decode cX2_findVector 11 = .ok (.istore 4, 2) := dk_54 4 (dk_at dksX2_findVector_0 11 rfl rfl)
theorem dX2_findVector_13 : decode cX2_findVector 13 = .ok (.iconst 0, 1) := dk_3 (dk_at dksX2_findVector_0 13 rfl rfl)
theorem dX2_findVector_14 : decode cX2_findVector 14 = .ok (.istore 5, 2) := dk_54 5 (dk_at dksX2_findVector_0 14 rfl rfl)
theorem dX2_findVector_16 : decode cX2_findVector 16 = .ok (.iconst (-1), 1) := dk_2 (dk_at dksX2_findVector_0 16 rfl rfl)
theorem dX2_findVector_17 : decode cX2_findVector 17 = .ok (.istore 6, 2) := dk_54 6 (dk_at dksX2_findVector_0 17 rfl rfl)
theorem dX2_findVector_19 : decode cX2_findVector 19 = .ok (.iconst 0, 1) := dk_3 (dk_at dksX2_findVector_0 19 rfl rfl)
theorem dX2_findVector_20 : decode cX2_findVector 20 = .ok (.istore 7, 2) := dk_54 7 (dk_at dksX2_findVector_0 20 rfl rfl)
theorem dX2_findVector_22 : decode cX2_findVector 22 = .ok (.iload 7, 2) := dk_21 7 (dk_at dksX2_findVector_0 22 rfl rfl)
theorem dX2_findVector_24 : decode cX2_findVector 24 = .ok (.aload_n 0, 1) := dk_42 (dk_at dksX2_findVector_1 0 rfl rfl)
theorem dX2_findVector_25 : decode cX2_findVector 25 = .ok (.getfield 18, 3) := dk_180 0 18 (dk_at dksX2_findVector_1 1 rfl rfl)
theorem dX2_findVector_28 : decode cX2_findVector 28 = .ok (.invokevirtual 45, 3) := dk_182 0 45 (dk_at dksX2_findVector_1 4 rfl rfl)
theorem dX2_findVector_31 : decode cX2_findVector 31 = .ok (.if_icmp .ge 211, 3) := dk_162 0 211 (dk_at dksX2_findVector_1 7 rfl rfl)
theorem dX2_findVector_34 : decode cX2_findVector 34 = .ok (.aload_n 0, 1) := dk_42 (dk_at dksX2_findVector_1 10 rfl rfl)
theorem dX2_findVector_35 : decode cX2_findVector 35 = .ok (.getfield 18, 3) := dk_180 0 18 (dk_at dksX2_findVector_1 11 rfl rfl)
theorem dX2_findVector_38 : decode cX2_findVector 38 = .ok (.iload 7, 2) := dk_21 7 (dk_at dksX2_findVector_1 14 rfl rfl)
theorem dX2_findVector_40 : decode cX2_findVector 40 = .ok (.invokevirtual 49, 3) := dk_182 0 49 (dk_at dksX2_findVector_1 16 rfl rfl)
theorem dX2_findVector_43 : decode cX2_findVector 43 = .ok (.checkcast 63, 3) := dk_192 0 63 (dk_at dksX2_findVector_1 19 rfl rfl)
theorem dX2_findVector_46 : decode cX2_findVector 46 = .ok (.astore 8, 2) := dk_58 8 (dk_at dksX2_findVector_1 22 rfl rfl)
theorem dX2_findVector_48 : decode cX2_findVector 48 = .ok (.aload 8, 2) := dk_25 8 (dk_at dksX2_findVector_2 0 rfl rfl)
theorem dX2_findVector_50 : decode cX2_findVector 50 = .ok (.getfield 157, 3) := dk_180 0 157 (dk_at dksX2_findVector_2 2 rfl rfl)
theorem dX2_findVector_53 : decode cX2_findVector 53 = .ok (.ifCond .eq 37, 3) := dk_153 0 37 (dk_at dksX2_findVector_2 5 rfl rfl)
theorem dX2_findVector_56 : decode cX2_findVector 56 = .ok (.aload 8, 2) := dk_25 8 (dk_at dksX2_findVector_2 8 rfl rfl)
theorem dX2_findVector_58 : decode cX2_findVector 58 = .ok (.aload_n 1, 1) := dk_43 (dk_at dksX2_findVector_2 10 rfl rfl)
theorem dX2_findVector_59 : decode cX2_findVector 59 = .ok (.getfield 223, 3) := dk_180 0 223 (dk_at dksX2_findVector_2 11 rfl rfl)
theorem dX2_findVector_62 : decode cX2_findVector 62 = .ok (.invokevirtual 226, 3) := dk_182 0 226 (dk_at dksX2_findVector_2 14 rfl rfl)
theorem dX2_findVector_65 : decode cX2_findVector 65 = .ok (.ifCond .eq 25, 3) := dk_153 0 25 (dk_at dksX2_findVector_2 17 rfl rfl)
theorem dX2_findVector_68 : decode cX2_findVector 68 = .ok (.aload_n 0, 1) := dk_42 (dk_at dksX2_findVector_2 20 rfl rfl)
theorem dX2_findVector_69 : decode cX2_findVector 69 = .ok (.getfield 12, 3) := dk_180 0 12 (dk_at dksX2_findVector_2 21 rfl rfl)
theorem dX2_findVector_72 : decode cX2_findVector 72 = .ok (.aload 8, 2) := dk_25 8 (dk_at dksX2_findVector_3 0 rfl rfl)
theorem dX2_findVector_74 : decode cX2_findVector 74 = .ok (.aload_n 1, 1) := dk_43 (dk_at dksX2_findVector_3 2 rfl rfl)
theorem dX2_findVector_75 : decode cX2_findVector 75 = .ok (.getfield 223, 3) := dk_180 0 223 (dk_at dksX2_findVector_3 3 rfl rfl)
theorem dX2_findVector_78 : decode cX2_findVector 78 = .ok (.invokevirtual 229, 3) := dk_182 0 229 (dk_at dksX2_findVector_3 6 rfl rfl)
theorem dX2_findVector_81 : decode cX2_findVector 81 = .ok (.invokevirtual 49, 3) := dk_182 0 49 (dk_at dksX2_findVector_3 9 rfl rfl)
theorem dX2_findVector_84 : decode cX2_findVector 84 = .ok (.checkcast 53, 3) := dk_192 0 53 (dk_at dksX2_findVector_3 12 rfl rfl)
theorem dX2_findVector_87 : decode cX2_findVector 87 = .ok (.goto 4, 3) := dk_167 0 4 (dk_at dksX2_findVector_3 15 rfl rfl)
theorem dX2_findVector_90 : decode cX2_findVector 90 = .ok (.aconst_null, 1) := dk_1 (dk_at dksX2_findVector_3 18 rfl rfl)
theorem dX2_findVector_91 : decode cX2_findVector 91 = .ok (.astore 9, 2) := dk_58 9 (dk_at dksX2_findVector_3 19 rfl rfl)
theorem dX2_findVector_93 : decode cX2_findVector 93 = .ok (.aload 9, 2) := dk_25 9 (dk_at dksX2_findVector_3 21 rfl rfl)
theorem dX2_findVector_95 : decode cX2_findVector 95 = .ok (.ifnull 141, 3) := dk_198 0 141 (dk_at dksX2_findVector_4 0 rfl rfl)
theorem dX2_findVector_98 : decode cX2_findVector 98 = .ok (.aload 9, 2) := dk_25 9 (dk_at dksX2_findVector_4 3 rfl rfl)
theorem dX2_findVector_100 : decode cX2_findVector 100 = .ok (.getfield 141, 3) := dk_180 0 141 (dk_at dksX2_findVector_4 5 rfl rfl)
theorem dX2_findVector_103 : decode cX2_findVector 103 = .ok (.getfield 233, 3) := dk_180 0 233 (dk_at dksX2_findVector_4 8 rfl rfl)
theorem dX2_findVector_106 : decode cX2_findVector 106 = .ok (.bipush 10, 2) := dk_16 10 (dk_at dksX2_findVector_4 11 rfl rfl)
theorem dX2_findVector_108 : decode cX2_findVector 108 = .ok (.if_icmp .ge 128, 3) := dk_162 0 128 (dk_at dksX2_findVector_4 13 rfl rfl)
theorem dX2_findVector_111 : decode cX2_findVector 111 = .ok (.aload 9, 2) := dk_25 9 (dk_at dksX2_findVector_4 16 rfl rfl)
theorem dX2_findVector_113 : decode cX2_findVector 113 = .ok (.getfield 141, 3) := dk_180 0 141 (dk_at dksX2_findVector_4 18 rfl rfl)
theorem dX2_findVector_116 : decode cX2_findVector 116 = .ok (.getfield 236, 3) := dk_180 0 236 (dk_at dksX2_findVector_4 21 rfl rfl)
theorem dX2_findVector_119 : decode cX2_findVector 119 = .ok (.aload 8, 2) := dk_25 8 (dk_at dksX2_findVector_5 0 rfl rfl)
theorem dX2_findVector_121 : decode cX2_findVector 121 = .ok (.getfield 239, 3) := dk_180 0 239 (dk_at dksX2_findVector_5 2 rfl rfl)
theorem dX2_findVector_124 : decode cX2_findVector 124 = .ok (.iadd, 1) := dk_96 (dk_at dksX2_findVector_5 5 rfl rfl)
theorem dX2_findVector_125 : decode cX2_findVector 125 = .ok (.istore 10, 2) := dk_54 10 (dk_at dksX2_findVector_5 6 rfl rfl)
theorem dX2_findVector_127 : decode cX2_findVector 127 = .ok (.aload 9, 2) := dk_25 9 (dk_at dksX2_findVector_5 8 rfl rfl)
theorem dX2_findVector_129 : decode cX2_findVector 129 = .ok (.getfield 141, 3) := dk_180 0 141 (dk_at dksX2_findVector_5 10 rfl rfl)
theorem dX2_findVector_132 : decode cX2_findVector 132 = .ok (.getfield 240, 3) := dk_180 0 240 (dk_at dksX2_findVector_5 13 rfl rfl)
theorem dX2_findVector_135 : decode cX2_findVector 135 = .ok (.iload_n 2, 1) := dk_28 (dk_at dksX2_findVector_5 16 rfl rfl)
theorem dX2_findVector_136 : decode cX2_findVector 136 = .ok (.if_icmp .eq 23, 3) := dk_159 0 23 (dk_at dksX2_findVector_5 17 rfl rfl)
theorem dX2_findVector_139 : decode cX2_findVector 139 = .ok (.aload 9, 2) := dk_25 9 (dk_at dksX2_findVector_5 20 rfl rfl)
theorem dX2_findVector_141 : decode cX2_findVector 141 = .ok (.getfield 141, 3) := dk_180 0 141 (dk_at dksX2_findVector_6 0 rfl rfl)
theorem dX2_findVector_144 : decode cX2_findVector 144 = .ok (.getfield 240, 3) := dk_180 0 240 (dk_at dksX2_findVector_6 3 rfl rfl)
theorem dX2_findVector_147 : decode cX2_findVector 147 = .ok (.iload_n 2, 1) := dk_28 (dk_at dksX2_findVector_6 6 rfl rfl)
theorem dX2_findVector_148 : decode cX2_findVector 148 = .ok (.if_icmp .ge 7, 3) := dk_162 0 7 (dk_at dksX2_findVector_6 7 rfl rfl)
theorem dX2_findVector_151 : decode cX2_findVector 151 = .ok (.iconst 1, 1) := dk_4 (dk_at dksX2_findVector_6 10 rfl rfl)
theorem dX2_findVector_152 : decode cX2_findVector 152 = .ok (.goto 42, 3) := dk_167 0 42 (dk_at dksX2_findVector_6 11 rfl rfl)
theorem dX2_findVector_155 : decode cX2_findVector 155 = .ok (.iconst 0, 1) := dk_3 (dk_at dksX2_findVector_6 14 rfl rfl)
theorem dX2_findVector_156 : decode cX2_findVector 156 = .ok (.goto 38, 3) := dk_167 0 38 (dk_at dksX2_findVector_6 15 rfl rfl)
theorem dX2_findVector_159 : decode cX2_findVector 159 = .ok (.iload 10, 2) := dk_21 10 (dk_at dksX2_findVector_6 18 rfl rfl)
theorem dX2_findVector_161 : decode cX2_findVector 161 = .ok (.iload_n 3, 1) := dk_29 (dk_at dksX2_findVector_6 20 rfl rfl)
theorem dX2_findVector_162 : decode cX2_findVector 162 = .ok (.if_icmp .eq 17, 3) := dk_159 0 17 (dk_at dksX2_findVector_6 21 rfl rfl)
theorem dX2_findVector_165 : decode cX2_findVector 165 = .ok (.iload 10, 2) := dk_21 10 (dk_at dksX2_findVector_7 0 rfl rfl)
theorem dX2_findVector_167 : decode cX2_findVector 167 = .ok (.iload_n 3, 1) := dk_29 (dk_at dksX2_findVector_7 2 rfl rfl)
theorem dX2_findVector_168 : decode cX2_findVector 168 = .ok (.if_icmp .ge 7, 3) := dk_162 0 7 (dk_at dksX2_findVector_7 3 rfl rfl)
theorem dX2_findVector_171 : decode cX2_findVector 171 = .ok (.iconst 1, 1) := dk_4 (dk_at dksX2_findVector_7 6 rfl rfl)
theorem dX2_findVector_172 : decode cX2_findVector 172 = .ok (.goto 22, 3) := dk_167 0 22 (dk_at dksX2_findVector_7 7 rfl rfl)
theorem dX2_findVector_175 : decode cX2_findVector 175 = .ok (.iconst 0, 1) := dk_3 (dk_at dksX2_findVector_7 10 rfl rfl)
theorem dX2_findVector_176 : decode cX2_findVector 176 = .ok (.goto 18, 3) := dk_167 0 18 (dk_at dksX2_findVector_7 11 rfl rfl)
theorem dX2_findVector_179 : decode cX2_findVector 179 = .ok (.aload 9, 2) := dk_25 9 (dk_at dksX2_findVector_7 14 rfl rfl)
theorem dX2_findVector_181 : decode cX2_findVector 181 = .ok (.invokevirtual 132, 3) := dk_182 0 132 (dk_at dksX2_findVector_7 16 rfl rfl)
theorem dX2_findVector_184 : decode cX2_findVector 184 = .ok (.iload 4, 2) := dk_21 4 (dk_at dksX2_findVector_7 19 rfl rfl)
theorem dX2_findVector_186 : decode cX2_findVector 186 = .ok (.if_icmp .ge 7, 3) := dk_162 0 7 (dk_at dksX2_findVector_7 21 rfl rfl)
theorem dX2_findVector_189 : decode cX2_findVector 189 = .ok (.iconst 1, 1) := dk_4 (dk_at dksX2_findVector_8 0 rfl rfl)
theorem dX2_findVector_190 : decode cX2_findVector 190 = .ok (.goto 4, 3) := dk_167 0 4 (dk_at dksX2_findVector_8 1 rfl rfl)
theorem dX2_findVector_193 : decode cX2_findVector 193 = .ok (.iconst 0, 1) := dk_3 (dk_at dksX2_findVector_8 4 rfl rfl)
theorem dX2_findVector_194 : decode cX2_findVector 194 = .ok (.istore 11, 2) := dk_54 11 (dk_at dksX2_findVector_8 5 rfl rfl)
theorem dX2_findVector_196 : decode cX2_findVector 196 = .ok (.iload 11, 2) := dk_21 11 (dk_at dksX2_findVector_8 7 rfl rfl)
theorem dX2_findVector_198 : decode cX2_findVector 198 = .ok (.ifCond .eq 38, 3) := dk_153 0 38 (dk_at dksX2_findVector_8 9 rfl rfl)
theorem dX2_findVector_201 : decode cX2_findVector 201 = .ok (.aload 9, 2) := dk_25 9 (dk_at dksX2_findVector_8 12 rfl rfl)
theorem dX2_findVector_203 : decode cX2_findVector 203 = .ok (.getfield 141, 3) := dk_180 0 141 (dk_at dksX2_findVector_8 14 rfl rfl)
theorem dX2_findVector_206 : decode cX2_findVector 206 = .ok (.getfield 240, 3) := dk_180 0 240 (dk_at dksX2_findVector_8 17 rfl rfl)
theorem dX2_findVector_209 : decode cX2_findVector 209 = .ok (.istore_n 2, 1) := dk_61 (dk_at dksX2_findVector_8 20 rfl rfl)
theorem dX2_findVector_210 : decode cX2_findVector 210 = .ok (.iload 10, 2) := dk_21 10 (dk_at dksX2_findVector_8 21 rfl rfl)
theorem dX2_findVector_212 : decode cX2_findVector 212 = .ok (.istore_n 3, 1) := dk_62 (dk_at dksX2_findVector_8 23 rfl rfl)
theorem dX2_findVector_213 : decode cX2_findVector 213 = .ok (.aload 9, 2) := dk_25 9 (dk_at dksX2_findVector_9 0 rfl rfl)
theorem dX2_findVector_215 : decode cX2_findVector 215 = .ok (.invokevirtual 132, 3) := dk_182 0 132 (dk_at dksX2_findVector_9 2 rfl rfl)
theorem dX2_findVector_218 : decode cX2_findVector 218 = .ok (.istore 4, 2) := dk_54 4 (dk_at dksX2_findVector_9 5 rfl rfl)
theorem dX2_findVector_220 : decode cX2_findVector 220 = .ok (.aload 9, 2) := dk_25 9 (dk_at dksX2_findVector_9 7 rfl rfl)
theorem dX2_findVector_222 : decode cX2_findVector 222 = .ok (.getfield 141, 3) := dk_180 0 141 (dk_at dksX2_findVector_9 9 rfl rfl)
theorem dX2_findVector_225 : decode cX2_findVector 225 = .ok (.getfield 233, 3) := dk_180 0 233 (dk_at dksX2_findVector_9 12 rfl rfl)
theorem dX2_findVector_228 : decode cX2_findVector 228 = .ok (.iconst 1, 1) := dk_4 (dk_at dksX2_findVector_9 15 rfl rfl)
theorem dX2_findVector_229 : decode cX2_findVector 229 = .ok (.iadd, 1) := dk_96 (dk_at dksX2_findVector_9 16 rfl rfl)
theorem dX2_findVector_230 : decode cX2_findVector 230 = .ok (.istore 5, 2) := dk_54 5 (dk_at dksX2_findVector_9 17 rfl rfl)
theorem dX2_findVector_232 : decode cX2_findVector 232 = .ok (.iload 7, 2) := dk_21 7 (dk_at dksX2_findVector_9 19 rfl rfl)
theorem dX2_findVector_234 : decode cX2_findVector 234 = .ok (.istore 6, 2) := dk_54 6 (dk_at dksX2_findVector_9 21 rfl rfl)
theorem dX2_findVector_236 : decode cX2_findVector 236 = .ok (.iinc 7 1, 3) := dk_132 7 1 (dk_at dksX2_findVector_10 0 rfl rfl)
theorem dX2_findVector_239 : decode cX2_findVector 239 = .ok (.goto (-217), 3) := dk_167 255 39 (dk_at dksX2_findVector_10 3 rfl rfl)
theorem dX2_findVector_242 : decode cX2_findVector 242 = .ok (.aload_n 1, 1) := dk_43 (dk_at dksX2_findVector_10 6 rfl rfl)
theorem dX2_findVector_243 : decode cX2_findVector 243 = .ok (.getfield 141, 3) := dk_180 0 141 (dk_at dksX2_findVector_10 7 rfl rfl)
theorem dX2_findVector_246 : decode cX2_findVector 246 = .ok (.iload_n 2, 1) := dk_28 (dk_at dksX2_findVector_10 10 rfl rfl)
theorem dX2_findVector_247 : decode cX2_findVector 247 = .ok (.iload_n 3, 1) := dk_29 (dk_at dksX2_findVector_10 11 rfl rfl)
theorem dX2_findVector_248 : decode cX2_findVector 248 = .ok (.iload 4, 2) := dk_21 4 (dk_at dksX2_findVector_10 12 rfl rfl)
theorem dX2_findVector_250 : decode cX2_findVector 250 = .ok (.iload 5, 2) := dk_21 5 (dk_at dksX2_findVector_10 14 rfl rfl)
theorem dX2_findVector_252 : decode cX2_findVector 252 = .ok (.iload 6, 2) := dk_21 6 (dk_at dksX2_findVector_10 16 rfl rfl)
theorem dX2_findVector_254 : decode cX2_findVector 254 = .ok (.invokevirtual 243, 3) := dk_182 0 243 (dk_at dksX2_findVector_10 18 rfl rfl)
theorem dX2_findVector_257 : decode cX2_findVector 257 = .ok (.areturn, 1) := dk_176 (dk_at dksX2_findVector_10 21 rfl rfl)
abbrev cX2_goOn : ByteArray := prog_5_method_17_code
def yX2_goOn : MethodName := ⟨RX2, "goOn", "(LBridgeAuction$Link;ILBridgeAuction$Port;LBridgeAuction$Bridge;LBridgeAuction$Bridge;[Z)[Z"⟩
def dkwX2_goOn_4 : List UInt8 := [180, 0, 223, 4, 84, 25, 8, 176]
abbrev dktX2_goOn_4 : List UInt8 := dkwX2_goOn_4 ++ []
def dkwX2_goOn_3 : List UInt8 := [199, 0, 15, 42, 180, 0, 12, 182, 0, 45, 188, 4, 167, 0, 5, 25, 6, 58, 8, 25, 8, 25, 4]
abbrev dktX2_goOn_3 : List UInt8 := dkwX2_goOn_3 ++ dktX2_goOn_4
def dkwX2_goOn_2 : List UInt8 := [180, 0, 34, 182, 0, 253, 154, 0, 6, 25, 6, 176, 42, 89, 180, 0, 80, 4, 96, 181, 0, 80, 25, 6]
abbrev dktX2_goOn_2 : List UInt8 := dkwX2_goOn_2 ++ dktX2_goOn_3
def dkwX2_goOn_1 : List UInt8 := [167, 0, 18, 25, 4, 25, 5, 182, 0, 249, 153, 0, 7, 4, 167, 0, 4, 5, 54, 7, 45, 21, 7, 42]
abbrev dktX2_goOn_1 : List UInt8 := dkwX2_goOn_1 ++ dktX2_goOn_2
def dkwX2_goOn_0 : List UInt8 := [43, 180, 0, 157, 154, 0, 7, 5, 167, 0, 34, 25, 4, 180, 0, 141, 180, 0, 247, 28, 160, 0, 7, 3]
abbrev dktX2_goOn_0 : List UInt8 := dkwX2_goOn_0 ++ dktX2_goOn_1
theorem dksX2_goOn_0 : cX2_goOn.data.toList.drop 0 = dktX2_goOn_0 := by decide +kernel
theorem dksX2_goOn_1 : cX2_goOn.data.toList.drop 24 = dktX2_goOn_1 := dk_seg dksX2_goOn_0 24 rfl rfl
theorem dksX2_goOn_2 : cX2_goOn.data.toList.drop 48 = dktX2_goOn_2 := dk_seg dksX2_goOn_1 24 rfl rfl
theorem dksX2_goOn_3 : cX2_goOn.data.toList.drop 72 = dktX2_goOn_3 := dk_seg dksX2_goOn_2 24 rfl rfl
theorem dksX2_goOn_4 : cX2_goOn.data.toList.drop 95 = dktX2_goOn_4 := dk_seg dksX2_goOn_3 23 rfl rfl
theorem dX2_goOn_0 : decode cX2_goOn 0 = .ok (.aload_n 1, 1) := dk_43 (dk_at dksX2_goOn_0 0 rfl rfl)
theorem dX2_goOn_1 : decode cX2_goOn 1 = .ok (.getfield 157, 3) := dk_180 0 157 (dk_at dksX2_goOn_0 1 rfl rfl)
theorem dX2_goOn_4 : decode cX2_goOn 4 = .ok (.ifCond .ne 7, 3) := dk_154 0 7 (dk_at dksX2_goOn_0 4 rfl rfl)
theorem dX2_goOn_7 : decode cX2_goOn 7 = .ok (.iconst 2, 1) := dk_5 (dk_at dksX2_goOn_0 7 rfl rfl)
theorem dX2_goOn_8 : decode cX2_goOn 8 = .ok (.goto 34, 3) := dk_167 0 34 (dk_at dksX2_goOn_0 8 rfl rfl)
theorem dX2_goOn_11 : decode cX2_goOn 11 = .ok (.aload 4, 2) := dk_25 4 (dk_at dksX2_goOn_0 11 rfl rfl)
theorem dX2_goOn_13 : decode cX2_goOn 13 = .ok (.getfield 141, 3) := dk_180 0 141 (dk_at dksX2_goOn_0 13 rfl rfl)
theorem dX2_goOn_16 : decode cX2_goOn 16 = .ok (.getfield 247, 3) := dk_180 0 247 (dk_at dksX2_goOn_0 16 rfl rfl)
theorem dX2_goOn_19 : decode cX2_goOn 19 = .ok (.iload_n 2, 1) := dk_28 (dk_at dksX2_goOn_0 19 rfl rfl)
theorem dX2_goOn_20 : decode cX2_goOn 20 = .ok (.if_icmp .ne 7, 3) := dk_160 0 7 (dk_at dksX2_goOn_0 20 rfl rfl)
theorem dX2_goOn_23 : decode cX2_goOn 23 = .ok (.iconst 0, 1) := dk_3 (dk_at dksX2_goOn_0 23 rfl rfl)
theorem dX2_goOn_24 : decode cX2_goOn 24 = .ok (.goto 18, 3) := dk_167 0 18 (dk_at dksX2_goOn_1 0 rfl rfl)
theorem dX2_goOn_27 : decode cX2_goOn 27 = .ok (.aload 4, 2) := dk_25 4 (dk_at dksX2_goOn_1 3 rfl rfl)
theorem dX2_goOn_29 : decode cX2_goOn 29 = .ok (.aload 5, 2) := dk_25 5 (dk_at dksX2_goOn_1 5 rfl rfl)
theorem dX2_goOn_31 : decode cX2_goOn 31 = .ok (.invokevirtual 249, 3) := dk_182 0 249 (dk_at dksX2_goOn_1 7 rfl rfl)
theorem dX2_goOn_34 : decode cX2_goOn 34 = .ok (.ifCond .eq 7, 3) := dk_153 0 7 (dk_at dksX2_goOn_1 10 rfl rfl)
theorem dX2_goOn_37 : decode cX2_goOn 37 = .ok (.iconst 1, 1) := dk_4 (dk_at dksX2_goOn_1 13 rfl rfl)
theorem dX2_goOn_38 : decode cX2_goOn 38 = .ok (.goto 4, 3) := dk_167 0 4 (dk_at dksX2_goOn_1 14 rfl rfl)
theorem dX2_goOn_41 : decode cX2_goOn 41 = .ok (.iconst 2, 1) := dk_5 (dk_at dksX2_goOn_1 17 rfl rfl)
theorem dX2_goOn_42 : decode cX2_goOn 42 = .ok (.istore 7, 2) := dk_54 7 (dk_at dksX2_goOn_1 18 rfl rfl)
theorem dX2_goOn_44 : decode cX2_goOn 44 = .ok (.aload_n 3, 1) := dk_45 (dk_at dksX2_goOn_1 20 rfl rfl)
theorem dX2_goOn_45 : decode cX2_goOn 45 = .ok (.iload 7, 2) := dk_21 7 (dk_at dksX2_goOn_1 21 rfl rfl)
theorem dX2_goOn_47 : decode cX2_goOn 47 = .ok (.aload_n 0, 1) := dk_42 (dk_at dksX2_goOn_1 23 rfl rfl)
theorem dX2_goOn_48 : decode cX2_goOn 48 = .ok (.getfield 34, 3) := dk_180 0 34 (dk_at dksX2_goOn_2 0 rfl rfl)
theorem dX2_goOn_51 : decode cX2_goOn 51 = .ok (.invokevirtual 253, 3) := dk_182 0 253 (dk_at dksX2_goOn_2 3 rfl rfl)
theorem dX2_goOn_54 : decode cX2_goOn 54 = .ok (.ifCond .ne 6, 3) := dk_154 0 6 (dk_at dksX2_goOn_2 6 rfl rfl)
theorem dX2_goOn_57 : decode cX2_goOn 57 = .ok (.aload 6, 2) := dk_25 6 (dk_at dksX2_goOn_2 9 rfl rfl)
theorem dX2_goOn_59 : decode cX2_goOn 59 = .ok (.areturn, 1) := dk_176 (dk_at dksX2_goOn_2 11 rfl rfl)
theorem dX2_goOn_60 : decode cX2_goOn 60 = .ok (.aload_n 0, 1) := dk_42 (dk_at dksX2_goOn_2 12 rfl rfl)
theorem dX2_goOn_61 : decode cX2_goOn 61 = .ok (.dup, 1) := dk_89 (dk_at dksX2_goOn_2 13 rfl rfl)
theorem dX2_goOn_62 : decode cX2_goOn 62 = .ok (.getfield 80, 3) := dk_180 0 80 (dk_at dksX2_goOn_2 14 rfl rfl)
theorem dX2_goOn_65 : decode cX2_goOn 65 = .ok (.iconst 1, 1) := dk_4 (dk_at dksX2_goOn_2 17 rfl rfl)
theorem dX2_goOn_66 : decode cX2_goOn 66 = .ok (.iadd, 1) := dk_96 (dk_at dksX2_goOn_2 18 rfl rfl)
theorem dX2_goOn_67 : decode cX2_goOn 67 = .ok (.putfield 80, 3) := dk_181 0 80 (dk_at dksX2_goOn_2 19 rfl rfl)
theorem dX2_goOn_70 : decode cX2_goOn 70 = .ok (.aload 6, 2) := dk_25 6 (dk_at dksX2_goOn_2 22 rfl rfl)
theorem dX2_goOn_72 : decode cX2_goOn 72 = .ok (.ifnonnull 15, 3) := dk_199 0 15 (dk_at dksX2_goOn_3 0 rfl rfl)
theorem dX2_goOn_75 : decode cX2_goOn 75 = .ok (.aload_n 0, 1) := dk_42 (dk_at dksX2_goOn_3 3 rfl rfl)
theorem dX2_goOn_76 : decode cX2_goOn 76 = .ok (.getfield 12, 3) := dk_180 0 12 (dk_at dksX2_goOn_3 4 rfl rfl)
theorem dX2_goOn_79 : decode cX2_goOn 79 = .ok (.invokevirtual 45, 3) := dk_182 0 45 (dk_at dksX2_goOn_3 7 rfl rfl)
theorem dX2_goOn_82 : decode cX2_goOn 82 = .ok (.newarray .boolean, 2) := dk_188_4 (dk_at dksX2_goOn_3 10 rfl rfl)
theorem dX2_goOn_84 : decode cX2_goOn 84 = .ok (.goto 5, 3) := dk_167 0 5 (dk_at dksX2_goOn_3 12 rfl rfl)
theorem dX2_goOn_87 : decode cX2_goOn 87 = .ok (.aload 6, 2) := dk_25 6 (dk_at dksX2_goOn_3 15 rfl rfl)
theorem dX2_goOn_89 : decode cX2_goOn 89 = .ok (.astore 8, 2) := dk_58 8 (dk_at dksX2_goOn_3 17 rfl rfl)
theorem dX2_goOn_91 : decode cX2_goOn 91 = .ok (.aload 8, 2) := dk_25 8 (dk_at dksX2_goOn_3 19 rfl rfl)
theorem dX2_goOn_93 : decode cX2_goOn 93 = .ok (.aload 4, 2) := dk_25 4 (dk_at dksX2_goOn_3 21 rfl rfl)
theorem dX2_goOn_95 : decode cX2_goOn 95 = .ok (.getfield 223, 3) := dk_180 0 223 (dk_at dksX2_goOn_4 0 rfl rfl)
theorem dX2_goOn_98 : decode cX2_goOn 98 = .ok (.iconst 1, 1) := dk_4 (dk_at dksX2_goOn_4 3 rfl rfl)
theorem dX2_goOn_99 : decode cX2_goOn 99 = .ok (.bastore, 1) := dk_84 (dk_at dksX2_goOn_4 4 rfl rfl)
theorem dX2_goOn_100 : decode cX2_goOn 100 = .ok (.aload 8, 2) := dk_25 8 (dk_at dksX2_goOn_4 5 rfl rfl)
theorem dX2_goOn_102 : decode cX2_goOn 102 = .ok (.areturn, 1) := dk_176 (dk_at dksX2_goOn_4 7 rfl rfl)
abbrev cX2_flush : ByteArray := prog_5_method_19_code
def yX2_flush : MethodName := ⟨RX2, "flush", "([Z)V"⟩
def dkwX2_flush_1 : List UInt8 := [42, 180, 0, 12, 28, 182, 0, 49, 192, 0, 53, 182, 1, 9, 132, 2, 1, 167, 255, 222, 177]
abbrev dktX2_flush_1 : List UInt8 := dkwX2_flush_1 ++ []
def dkwX2_flush_0 : List UInt8 := [42, 43, 182, 1, 6, 3, 61, 28, 42, 180, 0, 12, 182, 0, 45, 162, 0, 29, 43, 28, 51, 153, 0, 17]
abbrev dktX2_flush_0 : List UInt8 := dkwX2_flush_0 ++ dktX2_flush_1
theorem dksX2_flush_0 : cX2_flush.data.toList.drop 0 = dktX2_flush_0 := by decide +kernel
theorem dksX2_flush_1 : cX2_flush.data.toList.drop 24 = dktX2_flush_1 := dk_seg dksX2_flush_0 24 rfl rfl
theorem dX2_flush_0 : decode cX2_flush 0 = .ok (.aload_n 0, 1) := dk_42 (dk_at dksX2_flush_0 0 rfl rfl)
theorem dX2_flush_1 : decode cX2_flush 1 = .ok (.aload_n 1, 1) := dk_43 (dk_at dksX2_flush_0 1 rfl rfl)
theorem dX2_flush_2 : decode cX2_flush 2 = .ok (.invokevirtual 262, 3) := dk_182 1 6 (dk_at dksX2_flush_0 2 rfl rfl)
theorem dX2_flush_5 : decode cX2_flush 5 = .ok (.iconst 0, 1) := dk_3 (dk_at dksX2_flush_0 5 rfl rfl)
theorem dX2_flush_6 : decode cX2_flush 6 = .ok (.istore_n 2, 1) := dk_61 (dk_at dksX2_flush_0 6 rfl rfl)
theorem dX2_flush_7 : decode cX2_flush 7 = .ok (.iload_n 2, 1) := dk_28 (dk_at dksX2_flush_0 7 rfl rfl)
theorem dX2_flush_8 : decode cX2_flush 8 = .ok (.aload_n 0, 1) := dk_42 (dk_at dksX2_flush_0 8 rfl rfl)
theorem dX2_flush_9 : decode cX2_flush 9 = .ok (.getfield 12, 3) := dk_180 0 12 (dk_at dksX2_flush_0 9 rfl rfl)
theorem dX2_flush_12 : decode cX2_flush 12 = .ok (.invokevirtual 45, 3) := dk_182 0 45 (dk_at dksX2_flush_0 12 rfl rfl)
theorem dX2_flush_15 : decode cX2_flush 15 = .ok (.if_icmp .ge 29, 3) := dk_162 0 29 (dk_at dksX2_flush_0 15 rfl rfl)
theorem dX2_flush_18 : decode cX2_flush 18 = .ok (.aload_n 1, 1) := dk_43 (dk_at dksX2_flush_0 18 rfl rfl)
theorem dX2_flush_19 : decode cX2_flush 19 = .ok (.iload_n 2, 1) := dk_28 (dk_at dksX2_flush_0 19 rfl rfl)
theorem dX2_flush_20 : decode cX2_flush 20 = .ok (.baload, 1) := dk_51 (dk_at dksX2_flush_0 20 rfl rfl)
theorem dX2_flush_21 : decode cX2_flush 21 = .ok (.ifCond .eq 17, 3) := dk_153 0 17 (dk_at dksX2_flush_0 21 rfl rfl)
theorem dX2_flush_24 : decode cX2_flush 24 = .ok (.aload_n 0, 1) := dk_42 (dk_at dksX2_flush_1 0 rfl rfl)
theorem dX2_flush_25 : decode cX2_flush 25 = .ok (.getfield 12, 3) := dk_180 0 12 (dk_at dksX2_flush_1 1 rfl rfl)
theorem dX2_flush_28 : decode cX2_flush 28 = .ok (.iload_n 2, 1) := dk_28 (dk_at dksX2_flush_1 4 rfl rfl)
theorem dX2_flush_29 : decode cX2_flush 29 = .ok (.invokevirtual 49, 3) := dk_182 0 49 (dk_at dksX2_flush_1 5 rfl rfl)
theorem dX2_flush_32 : decode cX2_flush 32 = .ok (.checkcast 53, 3) := dk_192 0 53 (dk_at dksX2_flush_1 8 rfl rfl)
theorem dX2_flush_35 : decode cX2_flush 35 = .ok (.invokevirtual 265, 3) := dk_182 1 9 (dk_at dksX2_flush_1 11 rfl rfl)
theorem dX2_flush_38 : decode cX2_flush 38 = .ok (.iinc 2 1, 3) := dk_132 2 1 (dk_at dksX2_flush_1 14 rfl rfl)
theorem dX2_flush_41 : decode cX2_flush 41 = .ok (.goto (-34), 3) := dk_167 255 222 (dk_at dksX2_flush_1 17 rfl rfl)
theorem dX2_flush_44 : decode cX2_flush 44 = .ok (.return_, 1) := dk_177 (dk_at dksX2_flush_1 20 rfl rfl)
abbrev cX2_copy : ByteArray := prog_5_method_2_code
def yX2_copy : MethodName := ⟨RX2, "copy", "()LBridgeAuction$Network;"⟩
def dkwX2_copy_9 : List UInt8 := [43, 42, 180, 0, 89, 181, 0, 89, 43, 176]
abbrev dktX2_copy_9 : List UInt8 := dkwX2_copy_9 ++ []
def dkwX2_copy_8 : List UInt8 := [43, 42, 180, 0, 80, 181, 0, 80, 43, 42, 180, 0, 83, 181, 0, 83, 43, 42, 180, 0, 86, 181, 0, 86]
abbrev dktX2_copy_8 : List UInt8 := dkwX2_copy_8 ++ dktX2_copy_9
def dkwX2_copy_7 : List UInt8 := [43, 42, 180, 0, 38, 181, 0, 38, 43, 42, 180, 0, 41, 181, 0, 41, 43, 42, 180, 0, 77, 181, 0, 77]
abbrev dktX2_copy_7 : List UInt8 := dkwX2_copy_7 ++ dktX2_copy_8
def dkwX2_copy_6 : List UInt8 := [180, 0, 31, 3, 7, 184, 0, 68, 43, 42, 180, 0, 74, 181, 0, 74, 43, 42, 180, 0, 34, 181, 0, 34]
abbrev dktX2_copy_6 : List UInt8 := dkwX2_copy_6 ++ dktX2_copy_7
def dkwX2_copy_5 : List UInt8 := [184, 0, 68, 42, 180, 0, 28, 3, 43, 180, 0, 28, 3, 7, 184, 0, 68, 42, 180, 0, 31, 3, 43]
abbrev dktX2_copy_5 : List UInt8 := dkwX2_copy_5 ++ dktX2_copy_6
def dkwX2_copy_4 : List UInt8 := [3, 43, 180, 0, 21, 3, 16, 8, 184, 0, 68, 42, 180, 0, 25, 3, 43, 180, 0, 25, 3, 7]
abbrev dktX2_copy_4 : List UInt8 := dkwX2_copy_4 ++ dktX2_copy_5
def dkwX2_copy_3 : List UInt8 := [28, 182, 0, 49, 192, 0, 63, 182, 0, 65, 182, 0, 59, 62, 132, 2, 1, 167, 255, 220, 42, 180, 0, 21]
abbrev dktX2_copy_3 : List UInt8 := dkwX2_copy_3 ++ dktX2_copy_4
def dkwX2_copy_2 : List UInt8 := [167, 255, 220, 3, 61, 28, 42, 180, 0, 18, 182, 0, 45, 162, 0, 31, 43, 180, 0, 18, 42, 180, 0, 18]
abbrev dktX2_copy_2 : List UInt8 := dkwX2_copy_2 ++ dktX2_copy_3
def dkwX2_copy_1 : List UInt8 := [180, 0, 12, 42, 180, 0, 12, 28, 182, 0, 49, 192, 0, 53, 182, 0, 55, 182, 0, 59, 62, 132, 2, 1]
abbrev dktX2_copy_1 : List UInt8 := dkwX2_copy_1 ++ dktX2_copy_2
def dkwX2_copy_0 : List UInt8 := [187, 0, 13, 89, 183, 0, 44, 76, 3, 61, 28, 42, 180, 0, 12, 182, 0, 45, 162, 0, 31, 43]
abbrev dktX2_copy_0 : List UInt8 := dkwX2_copy_0 ++ dktX2_copy_1
theorem dksX2_copy_0 : cX2_copy.data.toList.drop 0 = dktX2_copy_0 := by decide +kernel
theorem dksX2_copy_1 : cX2_copy.data.toList.drop 22 = dktX2_copy_1 := dk_seg dksX2_copy_0 22 rfl rfl
theorem dksX2_copy_2 : cX2_copy.data.toList.drop 46 = dktX2_copy_2 := dk_seg dksX2_copy_1 24 rfl rfl
theorem dksX2_copy_3 : cX2_copy.data.toList.drop 70 = dktX2_copy_3 := dk_seg dksX2_copy_2 24 rfl rfl
theorem dksX2_copy_4 : cX2_copy.data.toList.drop 94 = dktX2_copy_4 := dk_seg dksX2_copy_3 24 rfl rfl
theorem dksX2_copy_5 : cX2_copy.data.toList.drop 116 = dktX2_copy_5 := dk_seg dksX2_copy_4 22 rfl rfl
theorem dksX2_copy_6 : cX2_copy.data.toList.drop 139 = dktX2_copy_6 := dk_seg dksX2_copy_5 23 rfl rfl
theorem dksX2_copy_7 : cX2_copy.data.toList.drop 163 = dktX2_copy_7 := dk_seg dksX2_copy_6 24 rfl rfl
theorem dksX2_copy_8 : cX2_copy.data.toList.drop 187 = dktX2_copy_8 := dk_seg dksX2_copy_7 24 rfl rfl
theorem dksX2_copy_9 : cX2_copy.data.toList.drop 211 = dktX2_copy_9 := dk_seg dksX2_copy_8 24 rfl rfl
theorem dX2_copy_0 : decode cX2_copy 0 = .ok (.new 13, 3) := dk_187 0 13 (dk_at dksX2_copy_0 0 rfl rfl)
theorem dX2_copy_3 : decode cX2_copy 3 = .ok (.dup, 1) := dk_89 (dk_at dksX2_copy_0 3 rfl rfl)
theorem dX2_copy_4 : decode cX2_copy 4 = .ok (.invokespecial 44, 3) := dk_183 0 44 (dk_at dksX2_copy_0 4 rfl rfl)
theorem dX2_copy_7 : decode cX2_copy 7 = .ok (.astore_n 1, 1) := dk_76 (dk_at dksX2_copy_0 7 rfl rfl)
theorem dX2_copy_8 : decode cX2_copy 8 = .ok (.iconst 0, 1) := dk_3 (dk_at dksX2_copy_0 8 rfl rfl)
theorem dX2_copy_9 : decode cX2_copy 9 = .ok (.istore_n 2, 1) := dk_61 (dk_at dksX2_copy_0 9 rfl rfl)
theorem dX2_copy_10 : decode cX2_copy 10 = .ok (.iload_n 2, 1) := dk_28 (dk_at dksX2_copy_0 10 rfl rfl)
theorem dX2_copy_11 : decode cX2_copy 11 = .ok (.aload_n 0, 1) := dk_42 (dk_at dksX2_copy_0 11 rfl rfl)
theorem dX2_copy_12 : decode cX2_copy 12 = .ok (.getfield 12, 3) := dk_180 0 12 (dk_at dksX2_copy_0 12 rfl rfl)
theorem dX2_copy_15 : decode cX2_copy 15 = .ok (.invokevirtual 45, 3) := dk_182 0 45 (dk_at dksX2_copy_0 15 rfl rfl)
theorem dX2_copy_18 : decode cX2_copy 18 = .ok (.if_icmp .ge 31, 3) := dk_162 0 31 (dk_at dksX2_copy_0 18 rfl rfl)
theorem dX2_copy_21 : decode cX2_copy 21 = .ok (.aload_n 1, 1) := dk_43 (dk_at dksX2_copy_0 21 rfl rfl)
theorem dX2_copy_22 : decode cX2_copy 22 = .ok (.getfield 12, 3) := dk_180 0 12 (dk_at dksX2_copy_1 0 rfl rfl)
theorem dX2_copy_25 : decode cX2_copy 25 = .ok (.aload_n 0, 1) := dk_42 (dk_at dksX2_copy_1 3 rfl rfl)
theorem dX2_copy_26 : decode cX2_copy 26 = .ok (.getfield 12, 3) := dk_180 0 12 (dk_at dksX2_copy_1 4 rfl rfl)
theorem dX2_copy_29 : decode cX2_copy 29 = .ok (.iload_n 2, 1) := dk_28 (dk_at dksX2_copy_1 7 rfl rfl)
theorem dX2_copy_30 : decode cX2_copy 30 = .ok (.invokevirtual 49, 3) := dk_182 0 49 (dk_at dksX2_copy_1 8 rfl rfl)
theorem dX2_copy_33 : decode cX2_copy 33 = .ok (.checkcast 53, 3) := dk_192 0 53 (dk_at dksX2_copy_1 11 rfl rfl)
theorem dX2_copy_36 : decode cX2_copy 36 = .ok (.invokevirtual 55, 3) := dk_182 0 55 (dk_at dksX2_copy_1 14 rfl rfl)
theorem dX2_copy_39 : decode cX2_copy 39 = .ok (.invokevirtual 59, 3) := dk_182 0 59 (dk_at dksX2_copy_1 17 rfl rfl)
theorem dX2_copy_42 : decode cX2_copy 42 = .ok (.istore_n 3, 1) := dk_62 (dk_at dksX2_copy_1 20 rfl rfl)
theorem dX2_copy_43 : decode cX2_copy 43 = .ok (.iinc 2 1, 3) := dk_132 2 1 (dk_at dksX2_copy_1 21 rfl rfl)
theorem dX2_copy_46 : decode cX2_copy 46 = .ok (.goto (-36), 3) := dk_167 255 220 (dk_at dksX2_copy_2 0 rfl rfl)
theorem dX2_copy_49 : decode cX2_copy 49 = .ok (.iconst 0, 1) := dk_3 (dk_at dksX2_copy_2 3 rfl rfl)
theorem dX2_copy_50 : decode cX2_copy 50 = .ok (.istore_n 2, 1) := dk_61 (dk_at dksX2_copy_2 4 rfl rfl)
theorem dX2_copy_51 : decode cX2_copy 51 = .ok (.iload_n 2, 1) := dk_28 (dk_at dksX2_copy_2 5 rfl rfl)
theorem dX2_copy_52 : decode cX2_copy 52 = .ok (.aload_n 0, 1) := dk_42 (dk_at dksX2_copy_2 6 rfl rfl)
theorem dX2_copy_53 : decode cX2_copy 53 = .ok (.getfield 18, 3) := dk_180 0 18 (dk_at dksX2_copy_2 7 rfl rfl)
theorem dX2_copy_56 : decode cX2_copy 56 = .ok (.invokevirtual 45, 3) := dk_182 0 45 (dk_at dksX2_copy_2 10 rfl rfl)
theorem dX2_copy_59 : decode cX2_copy 59 = .ok (.if_icmp .ge 31, 3) := dk_162 0 31 (dk_at dksX2_copy_2 13 rfl rfl)
theorem dX2_copy_62 : decode cX2_copy 62 = .ok (.aload_n 1, 1) := dk_43 (dk_at dksX2_copy_2 16 rfl rfl)
theorem dX2_copy_63 : decode cX2_copy 63 = .ok (.getfield 18, 3) := dk_180 0 18 (dk_at dksX2_copy_2 17 rfl rfl)
theorem dX2_copy_66 : decode cX2_copy 66 = .ok (.aload_n 0, 1) := dk_42 (dk_at dksX2_copy_2 20 rfl rfl)
theorem dX2_copy_67 : decode cX2_copy 67 = .ok (.getfield 18, 3) := dk_180 0 18 (dk_at dksX2_copy_2 21 rfl rfl)
theorem dX2_copy_70 : decode cX2_copy 70 = .ok (.iload_n 2, 1) := dk_28 (dk_at dksX2_copy_3 0 rfl rfl)
theorem dX2_copy_71 : decode cX2_copy 71 = .ok (.invokevirtual 49, 3) := dk_182 0 49 (dk_at dksX2_copy_3 1 rfl rfl)
theorem dX2_copy_74 : decode cX2_copy 74 = .ok (.checkcast 63, 3) := dk_192 0 63 (dk_at dksX2_copy_3 4 rfl rfl)
theorem dX2_copy_77 : decode cX2_copy 77 = .ok (.invokevirtual 65, 3) := dk_182 0 65 (dk_at dksX2_copy_3 7 rfl rfl)
theorem dX2_copy_80 : decode cX2_copy 80 = .ok (.invokevirtual 59, 3) := dk_182 0 59 (dk_at dksX2_copy_3 10 rfl rfl)
theorem dX2_copy_83 : decode cX2_copy 83 = .ok (.istore_n 3, 1) := dk_62 (dk_at dksX2_copy_3 13 rfl rfl)
theorem dX2_copy_84 : decode cX2_copy 84 = .ok (.iinc 2 1, 3) := dk_132 2 1 (dk_at dksX2_copy_3 14 rfl rfl)
theorem dX2_copy_87 : decode cX2_copy 87 = .ok (.goto (-36), 3) := dk_167 255 220 (dk_at dksX2_copy_3 17 rfl rfl)
theorem dX2_copy_90 : decode cX2_copy 90 = .ok (.aload_n 0, 1) := dk_42 (dk_at dksX2_copy_3 20 rfl rfl)
theorem dX2_copy_91 : decode cX2_copy 91 = .ok (.getfield 21, 3) := dk_180 0 21 (dk_at dksX2_copy_3 21 rfl rfl)
theorem dX2_copy_94 : decode cX2_copy 94 = .ok (.iconst 0, 1) := dk_3 (dk_at dksX2_copy_4 0 rfl rfl)
theorem dX2_copy_95 : decode cX2_copy 95 = .ok (.aload_n 1, 1) := dk_43 (dk_at dksX2_copy_4 1 rfl rfl)
theorem dX2_copy_96 : decode cX2_copy 96 = .ok (.getfield 21, 3) := dk_180 0 21 (dk_at dksX2_copy_4 2 rfl rfl)
theorem dX2_copy_99 : decode cX2_copy 99 = .ok (.iconst 0, 1) := dk_3 (dk_at dksX2_copy_4 5 rfl rfl)
theorem dX2_copy_100 : decode cX2_copy 100 = .ok (.bipush 8, 2) := dk_16 8 (dk_at dksX2_copy_4 6 rfl rfl)
theorem dX2_copy_102 : decode cX2_copy 102 = .ok (.invokestatic 68, 3) := dk_184 0 68 (dk_at dksX2_copy_4 8 rfl rfl)
theorem dX2_copy_105 : decode cX2_copy 105 = .ok (.aload_n 0, 1) := dk_42 (dk_at dksX2_copy_4 11 rfl rfl)
theorem dX2_copy_106 : decode cX2_copy 106 = .ok (.getfield 25, 3) := dk_180 0 25 (dk_at dksX2_copy_4 12 rfl rfl)
theorem dX2_copy_109 : decode cX2_copy 109 = .ok (.iconst 0, 1) := dk_3 (dk_at dksX2_copy_4 15 rfl rfl)
theorem dX2_copy_110 : decode cX2_copy 110 = .ok (.aload_n 1, 1) := dk_43 (dk_at dksX2_copy_4 16 rfl rfl)
theorem dX2_copy_111 : decode cX2_copy 111 = .ok (.getfield 25, 3) := dk_180 0 25 (dk_at dksX2_copy_4 17 rfl rfl)
theorem dX2_copy_114 : decode cX2_copy 114 = .ok (.iconst 0, 1) := dk_3 (dk_at dksX2_copy_4 20 rfl rfl)
theorem dX2_copy_115 : decode cX2_copy 115 = .ok (.iconst 4, 1) := dk_7 (dk_at dksX2_copy_4 21 rfl rfl)
theorem dX2_copy_116 : decode cX2_copy 116 = .ok (.invokestatic 68, 3) := dk_184 0 68 (dk_at dksX2_copy_5 0 rfl rfl)
theorem dX2_copy_119 : decode cX2_copy 119 = .ok (.aload_n 0, 1) := dk_42 (dk_at dksX2_copy_5 3 rfl rfl)
theorem dX2_copy_120 : decode cX2_copy 120 = .ok (.getfield 28, 3) := dk_180 0 28 (dk_at dksX2_copy_5 4 rfl rfl)
theorem dX2_copy_123 : decode cX2_copy 123 = .ok (.iconst 0, 1) := dk_3 (dk_at dksX2_copy_5 7 rfl rfl)
theorem dX2_copy_124 : decode cX2_copy 124 = .ok (.aload_n 1, 1) := dk_43 (dk_at dksX2_copy_5 8 rfl rfl)
theorem dX2_copy_125 : decode cX2_copy 125 = .ok (.getfield 28, 3) := dk_180 0 28 (dk_at dksX2_copy_5 9 rfl rfl)
theorem dX2_copy_128 : decode cX2_copy 128 = .ok (.iconst 0, 1) := dk_3 (dk_at dksX2_copy_5 12 rfl rfl)
theorem dX2_copy_129 : decode cX2_copy 129 = .ok (.iconst 4, 1) := dk_7 (dk_at dksX2_copy_5 13 rfl rfl)
theorem dX2_copy_130 : decode cX2_copy 130 = .ok (.invokestatic 68, 3) := dk_184 0 68 (dk_at dksX2_copy_5 14 rfl rfl)
theorem dX2_copy_133 : decode cX2_copy 133 = .ok (.aload_n 0, 1) := dk_42 (dk_at dksX2_copy_5 17 rfl rfl)
theorem dX2_copy_134 : decode cX2_copy 134 = .ok (.getfield 31, 3) := dk_180 0 31 (dk_at dksX2_copy_5 18 rfl rfl)
theorem dX2_copy_137 : decode cX2_copy 137 = .ok (.iconst 0, 1) := dk_3 (dk_at dksX2_copy_5 21 rfl rfl)
theorem dX2_copy_138 : decode cX2_copy 138 = .ok (.aload_n 1, 1) := dk_43 (dk_at dksX2_copy_5 22 rfl rfl)
theorem dX2_copy_139 : decode cX2_copy 139 = .ok (.getfield 31, 3) := dk_180 0 31 (dk_at dksX2_copy_6 0 rfl rfl)
theorem dX2_copy_142 : decode cX2_copy 142 = .ok (.iconst 0, 1) := dk_3 (dk_at dksX2_copy_6 3 rfl rfl)
theorem dX2_copy_143 : decode cX2_copy 143 = .ok (.iconst 4, 1) := dk_7 (dk_at dksX2_copy_6 4 rfl rfl)
theorem dX2_copy_144 : decode cX2_copy 144 = .ok (.invokestatic 68, 3) := dk_184 0 68 (dk_at dksX2_copy_6 5 rfl rfl)
theorem dX2_copy_147 : decode cX2_copy 147 = .ok (.aload_n 1, 1) := dk_43 (dk_at dksX2_copy_6 8 rfl rfl)
theorem dX2_copy_148 : decode cX2_copy 148 = .ok (.aload_n 0, 1) := dk_42 (dk_at dksX2_copy_6 9 rfl rfl)
theorem dX2_copy_149 : decode cX2_copy 149 = .ok (.getfield 74, 3) := dk_180 0 74 (dk_at dksX2_copy_6 10 rfl rfl)
theorem dX2_copy_152 : decode cX2_copy 152 = .ok (.putfield 74, 3) := dk_181 0 74 (dk_at dksX2_copy_6 13 rfl rfl)
theorem dX2_copy_155 : decode cX2_copy 155 = .ok (.aload_n 1, 1) := dk_43 (dk_at dksX2_copy_6 16 rfl rfl)
theorem dX2_copy_156 : decode cX2_copy 156 = .ok (.aload_n 0, 1) := dk_42 (dk_at dksX2_copy_6 17 rfl rfl)
theorem dX2_copy_157 : decode cX2_copy 157 = .ok (.getfield 34, 3) := dk_180 0 34 (dk_at dksX2_copy_6 18 rfl rfl)
theorem dX2_copy_160 : decode cX2_copy 160 = .ok (.putfield 34, 3) := dk_181 0 34 (dk_at dksX2_copy_6 21 rfl rfl)
theorem dX2_copy_163 : decode cX2_copy 163 = .ok (.aload_n 1, 1) := dk_43 (dk_at dksX2_copy_7 0 rfl rfl)
theorem dX2_copy_164 : decode cX2_copy 164 = .ok (.aload_n 0, 1) := dk_42 (dk_at dksX2_copy_7 1 rfl rfl)
theorem dX2_copy_165 : decode cX2_copy 165 = .ok (.getfield 38, 3) := dk_180 0 38 (dk_at dksX2_copy_7 2 rfl rfl)
theorem dX2_copy_168 : decode cX2_copy 168 = .ok (.putfield 38, 3) := dk_181 0 38 (dk_at dksX2_copy_7 5 rfl rfl)
theorem dX2_copy_171 : decode cX2_copy 171 = .ok (.aload_n 1, 1) := dk_43 (dk_at dksX2_copy_7 8 rfl rfl)
theorem dX2_copy_172 : decode cX2_copy 172 = .ok (.aload_n 0, 1) := dk_42 (dk_at dksX2_copy_7 9 rfl rfl)
theorem dX2_copy_173 : decode cX2_copy 173 = .ok (.getfield 41, 3) := dk_180 0 41 (dk_at dksX2_copy_7 10 rfl rfl)
theorem dX2_copy_176 : decode cX2_copy 176 = .ok (.putfield 41, 3) := dk_181 0 41 (dk_at dksX2_copy_7 13 rfl rfl)
theorem dX2_copy_179 : decode cX2_copy 179 = .ok (.aload_n 1, 1) := dk_43 (dk_at dksX2_copy_7 16 rfl rfl)
theorem dX2_copy_180 : decode cX2_copy 180 = .ok (.aload_n 0, 1) := dk_42 (dk_at dksX2_copy_7 17 rfl rfl)
theorem dX2_copy_181 : decode cX2_copy 181 = .ok (.getfield 77, 3) := dk_180 0 77 (dk_at dksX2_copy_7 18 rfl rfl)
theorem dX2_copy_184 : decode cX2_copy 184 = .ok (.putfield 77, 3) := dk_181 0 77 (dk_at dksX2_copy_7 21 rfl rfl)
theorem dX2_copy_187 : decode cX2_copy 187 = .ok (.aload_n 1, 1) := dk_43 (dk_at dksX2_copy_8 0 rfl rfl)
theorem dX2_copy_188 : decode cX2_copy 188 = .ok (.aload_n 0, 1) := dk_42 (dk_at dksX2_copy_8 1 rfl rfl)
theorem dX2_copy_189 : decode cX2_copy 189 = .ok (.getfield 80, 3) := dk_180 0 80 (dk_at dksX2_copy_8 2 rfl rfl)
theorem dX2_copy_192 : decode cX2_copy 192 = .ok (.putfield 80, 3) := dk_181 0 80 (dk_at dksX2_copy_8 5 rfl rfl)
theorem dX2_copy_195 : decode cX2_copy 195 = .ok (.aload_n 1, 1) := dk_43 (dk_at dksX2_copy_8 8 rfl rfl)
theorem dX2_copy_196 : decode cX2_copy 196 = .ok (.aload_n 0, 1) := dk_42 (dk_at dksX2_copy_8 9 rfl rfl)
theorem dX2_copy_197 : decode cX2_copy 197 = .ok (.getfield 83, 3) := dk_180 0 83 (dk_at dksX2_copy_8 10 rfl rfl)
theorem dX2_copy_200 : decode cX2_copy 200 = .ok (.putfield 83, 3) := dk_181 0 83 (dk_at dksX2_copy_8 13 rfl rfl)
theorem dX2_copy_203 : decode cX2_copy 203 = .ok (.aload_n 1, 1) := dk_43 (dk_at dksX2_copy_8 16 rfl rfl)
theorem dX2_copy_204 : decode cX2_copy 204 = .ok (.aload_n 0, 1) := dk_42 (dk_at dksX2_copy_8 17 rfl rfl)
theorem dX2_copy_205 : decode cX2_copy 205 = .ok (.getfield 86, 3) := dk_180 0 86 (dk_at dksX2_copy_8 18 rfl rfl)
theorem dX2_copy_208 : decode cX2_copy 208 = .ok (.putfield 86, 3) := dk_181 0 86 (dk_at dksX2_copy_8 21 rfl rfl)
theorem dX2_copy_211 : decode cX2_copy 211 = .ok (.aload_n 1, 1) := dk_43 (dk_at dksX2_copy_9 0 rfl rfl)
theorem dX2_copy_212 : decode cX2_copy 212 = .ok (.aload_n 0, 1) := dk_42 (dk_at dksX2_copy_9 1 rfl rfl)
theorem dX2_copy_213 : decode cX2_copy 213 = .ok (.getfield 89, 3) := dk_180 0 89 (dk_at dksX2_copy_9 2 rfl rfl)
theorem dX2_copy_216 : decode cX2_copy 216 = .ok (.putfield 89, 3) := dk_181 0 89 (dk_at dksX2_copy_9 5 rfl rfl)
theorem dX2_copy_219 : decode cX2_copy 219 = .ok (.aload_n 1, 1) := dk_43 (dk_at dksX2_copy_9 8 rfl rfl)
theorem dX2_copy_220 : decode cX2_copy 220 = .ok (.areturn, 1) := dk_176 (dk_at dksX2_copy_9 9 rfl rfl)
abbrev cX2_tenantValue : ByteArray := prog_5_method_30_code
def yX2_tenantValue : MethodName := ⟨RX2, "tenantValue", "(II)I"⟩
def dkwX2_tenantValue_1 : List UInt8 := [167, 0, 23, 28, 5, 160, 0, 12, 42, 180, 0, 28, 27, 46, 167, 0, 9, 42, 180, 0, 31, 27, 46, 172]
abbrev dktX2_tenantValue_1 : List UInt8 := dkwX2_tenantValue_1 ++ []
def dkwX2_tenantValue_0 : List UInt8 := [28, 154, 0, 12, 42, 180, 0, 25, 27, 46, 167, 0, 36, 28, 4, 160, 0, 11, 42, 27, 182, 1, 47]
abbrev dktX2_tenantValue_0 : List UInt8 := dkwX2_tenantValue_0 ++ dktX2_tenantValue_1
theorem dksX2_tenantValue_0 : cX2_tenantValue.data.toList.drop 0 = dktX2_tenantValue_0 := by decide +kernel
theorem dksX2_tenantValue_1 : cX2_tenantValue.data.toList.drop 23 = dktX2_tenantValue_1 := dk_seg dksX2_tenantValue_0 23 rfl rfl
theorem dX2_tenantValue_0 : decode cX2_tenantValue 0 = .ok (.iload_n 2, 1) := dk_28 (dk_at dksX2_tenantValue_0 0 rfl rfl)
theorem dX2_tenantValue_1 : decode cX2_tenantValue 1 = .ok (.ifCond .ne 12, 3) := dk_154 0 12 (dk_at dksX2_tenantValue_0 1 rfl rfl)
theorem dX2_tenantValue_4 : decode cX2_tenantValue 4 = .ok (.aload_n 0, 1) := dk_42 (dk_at dksX2_tenantValue_0 4 rfl rfl)
theorem dX2_tenantValue_5 : decode cX2_tenantValue 5 = .ok (.getfield 25, 3) := dk_180 0 25 (dk_at dksX2_tenantValue_0 5 rfl rfl)
theorem dX2_tenantValue_8 : decode cX2_tenantValue 8 = .ok (.iload_n 1, 1) := dk_27 (dk_at dksX2_tenantValue_0 8 rfl rfl)
theorem dX2_tenantValue_9 : decode cX2_tenantValue 9 = .ok (.iaload, 1) := dk_46 (dk_at dksX2_tenantValue_0 9 rfl rfl)
theorem dX2_tenantValue_10 : decode cX2_tenantValue 10 = .ok (.goto 36, 3) := dk_167 0 36 (dk_at dksX2_tenantValue_0 10 rfl rfl)
theorem dX2_tenantValue_13 : decode cX2_tenantValue 13 = .ok (.iload_n 2, 1) := dk_28 (dk_at dksX2_tenantValue_0 13 rfl rfl)
theorem dX2_tenantValue_14 : decode cX2_tenantValue 14 = .ok (.iconst 1, 1) := dk_4 (dk_at dksX2_tenantValue_0 14 rfl rfl)
theorem dX2_tenantValue_15 : decode cX2_tenantValue 15 = .ok (.if_icmp .ne 11, 3) := dk_160 0 11 (dk_at dksX2_tenantValue_0 15 rfl rfl)
theorem dX2_tenantValue_18 : decode cX2_tenantValue 18 = .ok (.aload_n 0, 1) := dk_42 (dk_at dksX2_tenantValue_0 18 rfl rfl)
theorem dX2_tenantValue_19 : decode cX2_tenantValue 19 = .ok (.iload_n 1, 1) := dk_27 (dk_at dksX2_tenantValue_0 19 rfl rfl)
theorem dX2_tenantValue_20 : decode cX2_tenantValue 20 = .ok (.invokevirtual 303, 3) := dk_182 1 47 (dk_at dksX2_tenantValue_0 20 rfl rfl)
theorem dX2_tenantValue_23 : decode cX2_tenantValue 23 = .ok (.goto 23, 3) := dk_167 0 23 (dk_at dksX2_tenantValue_1 0 rfl rfl)
theorem dX2_tenantValue_26 : decode cX2_tenantValue 26 = .ok (.iload_n 2, 1) := dk_28 (dk_at dksX2_tenantValue_1 3 rfl rfl)
theorem dX2_tenantValue_27 : decode cX2_tenantValue 27 = .ok (.iconst 2, 1) := dk_5 (dk_at dksX2_tenantValue_1 4 rfl rfl)
theorem dX2_tenantValue_28 : decode cX2_tenantValue 28 = .ok (.if_icmp .ne 12, 3) := dk_160 0 12 (dk_at dksX2_tenantValue_1 5 rfl rfl)
theorem dX2_tenantValue_31 : decode cX2_tenantValue 31 = .ok (.aload_n 0, 1) := dk_42 (dk_at dksX2_tenantValue_1 8 rfl rfl)
theorem dX2_tenantValue_32 : decode cX2_tenantValue 32 = .ok (.getfield 28, 3) := dk_180 0 28 (dk_at dksX2_tenantValue_1 9 rfl rfl)
theorem dX2_tenantValue_35 : decode cX2_tenantValue 35 = .ok (.iload_n 1, 1) := dk_27 (dk_at dksX2_tenantValue_1 12 rfl rfl)
theorem dX2_tenantValue_36 : decode cX2_tenantValue 36 = .ok (.iaload, 1) := dk_46 (dk_at dksX2_tenantValue_1 13 rfl rfl)
theorem dX2_tenantValue_37 : decode cX2_tenantValue 37 = .ok (.goto 9, 3) := dk_167 0 9 (dk_at dksX2_tenantValue_1 14 rfl rfl)
theorem dX2_tenantValue_40 : decode cX2_tenantValue 40 = .ok (.aload_n 0, 1) := dk_42 (dk_at dksX2_tenantValue_1 17 rfl rfl)
theorem dX2_tenantValue_41 : decode cX2_tenantValue 41 = .ok (.getfield 31, 3) := dk_180 0 31 (dk_at dksX2_tenantValue_1 18 rfl rfl)
theorem dX2_tenantValue_44 : decode cX2_tenantValue 44 = .ok (.iload_n 1, 1) := dk_27 (dk_at dksX2_tenantValue_1 21 rfl rfl)
theorem dX2_tenantValue_45 : decode cX2_tenantValue 45 = .ok (.iaload, 1) := dk_46 (dk_at dksX2_tenantValue_1 22 rfl rfl)
theorem dX2_tenantValue_46 : decode cX2_tenantValue 46 = .ok (.ireturn, 1) := dk_172 (dk_at dksX2_tenantValue_1 23 rfl rfl)
abbrev cX2_won : ByteArray := prog_5_method_29_code
def yX2_won : MethodName := ⟨RX2, "won", "(I)I"⟩
def dkwX2_won_2 : List UInt8 := [172]
abbrev dktX2_won_2 : List UInt8 := dkwX2_won_2 ++ []
def dkwX2_won_1 : List UInt8 := [192, 0, 63, 180, 0, 163, 27, 160, 0, 7, 4, 167, 0, 4, 3, 96, 61, 132, 3, 1, 167, 255, 216, 28]
abbrev dktX2_won_1 : List UInt8 := dkwX2_won_1 ++ dktX2_won_2
def dkwX2_won_0 : List UInt8 := [3, 61, 3, 62, 29, 42, 180, 0, 18, 182, 0, 45, 162, 0, 35, 28, 42, 180, 0, 18, 29, 182, 0, 49]
abbrev dktX2_won_0 : List UInt8 := dkwX2_won_0 ++ dktX2_won_1
theorem dksX2_won_0 : cX2_won.data.toList.drop 0 = dktX2_won_0 := by decide +kernel
theorem dksX2_won_1 : cX2_won.data.toList.drop 24 = dktX2_won_1 := dk_seg dksX2_won_0 24 rfl rfl
theorem dksX2_won_2 : cX2_won.data.toList.drop 48 = dktX2_won_2 := dk_seg dksX2_won_1 24 rfl rfl
theorem dX2_won_0 : decode cX2_won 0 = .ok (.iconst 0, 1) := dk_3 (dk_at dksX2_won_0 0 rfl rfl)
theorem dX2_won_1 : decode cX2_won 1 = .ok (.istore_n 2, 1) := dk_61 (dk_at dksX2_won_0 1 rfl rfl)
theorem dX2_won_2 : decode cX2_won 2 = .ok (.iconst 0, 1) := dk_3 (dk_at dksX2_won_0 2 rfl rfl)
theorem dX2_won_3 : decode cX2_won 3 = .ok (.istore_n 3, 1) := dk_62 (dk_at dksX2_won_0 3 rfl rfl)
theorem dX2_won_4 : decode cX2_won 4 = .ok (.iload_n 3, 1) := dk_29 (dk_at dksX2_won_0 4 rfl rfl)
theorem dX2_won_5 : decode cX2_won 5 = .ok (.aload_n 0, 1) := dk_42 (dk_at dksX2_won_0 5 rfl rfl)
theorem dX2_won_6 : decode cX2_won 6 = .ok (.getfield 18, 3) := dk_180 0 18 (dk_at dksX2_won_0 6 rfl rfl)
theorem dX2_won_9 : decode cX2_won 9 = .ok (.invokevirtual 45, 3) := dk_182 0 45 (dk_at dksX2_won_0 9 rfl rfl)
theorem dX2_won_12 : decode cX2_won 12 = .ok (.if_icmp .ge 35, 3) := dk_162 0 35 (dk_at dksX2_won_0 12 rfl rfl)
theorem dX2_won_15 : decode cX2_won 15 = .ok (.iload_n 2, 1) := dk_28 (dk_at dksX2_won_0 15 rfl rfl)
theorem dX2_won_16 : decode cX2_won 16 = .ok (.aload_n 0, 1) := dk_42 (dk_at dksX2_won_0 16 rfl rfl)
theorem dX2_won_17 : decode cX2_won 17 = .ok (.getfield 18, 3) := dk_180 0 18 (dk_at dksX2_won_0 17 rfl rfl)
theorem dX2_won_20 : decode cX2_won 20 = .ok (.iload_n 3, 1) := dk_29 (dk_at dksX2_won_0 20 rfl rfl)
theorem dX2_won_21 : decode cX2_won 21 = .ok (.invokevirtual 49, 3) := dk_182 0 49 (dk_at dksX2_won_0 21 rfl rfl)
theorem dX2_won_24 : decode cX2_won 24 = .ok (.checkcast 63, 3) := dk_192 0 63 (dk_at dksX2_won_1 0 rfl rfl)
theorem dX2_won_27 : decode cX2_won 27 = .ok (.getfield 163, 3) := dk_180 0 163 (dk_at dksX2_won_1 3 rfl rfl)
theorem dX2_won_30 : decode cX2_won 30 = .ok (.iload_n 1, 1) := dk_27 (dk_at dksX2_won_1 6 rfl rfl)
theorem dX2_won_31 : decode cX2_won 31 = .ok (.if_icmp .ne 7, 3) := dk_160 0 7 (dk_at dksX2_won_1 7 rfl rfl)
theorem dX2_won_34 : decode cX2_won 34 = .ok (.iconst 1, 1) := dk_4 (dk_at dksX2_won_1 10 rfl rfl)
theorem dX2_won_35 : decode cX2_won 35 = .ok (.goto 4, 3) := dk_167 0 4 (dk_at dksX2_won_1 11 rfl rfl)
theorem dX2_won_38 : decode cX2_won 38 = .ok (.iconst 0, 1) := dk_3 (dk_at dksX2_won_1 14 rfl rfl)
theorem dX2_won_39 : decode cX2_won 39 = .ok (.iadd, 1) := dk_96 (dk_at dksX2_won_1 15 rfl rfl)
theorem dX2_won_40 : decode cX2_won 40 = .ok (.istore_n 2, 1) := dk_61 (dk_at dksX2_won_1 16 rfl rfl)
theorem dX2_won_41 : decode cX2_won 41 = .ok (.iinc 3 1, 3) := dk_132 3 1 (dk_at dksX2_won_1 17 rfl rfl)
theorem dX2_won_44 : decode cX2_won 44 = .ok (.goto (-40), 3) := dk_167 255 216 (dk_at dksX2_won_1 20 rfl rfl)
theorem dX2_won_47 : decode cX2_won 47 = .ok (.iload_n 2, 1) := dk_28 (dk_at dksX2_won_1 23 rfl rfl)
theorem dX2_won_48 : decode cX2_won 48 = .ok (.ireturn, 1) := dk_172 (dk_at dksX2_won_2 0 rfl rfl)
abbrev cX2_count : ByteArray := prog_5_method_24_code
def yX2_count : MethodName := ⟨RX2, "count", "(I)I"⟩
def dkwX2_count_3 : List UInt8 := [172, 42, 182, 1, 38, 172, 42, 182, 1, 41, 172]
abbrev dktX2_count_3 : List UInt8 := dkwX2_count_3 ++ []
def dkwX2_count_2 : List UInt8 := [42, 180, 0, 77, 172, 42, 180, 0, 80, 172, 42, 180, 0, 83, 172, 42, 180, 0, 86, 172, 42, 180, 0, 89]
abbrev dktX2_count_2 : List UInt8 := dkwX2_count_2 ++ dktX2_count_3
def dkwX2_count_1 : List UInt8 := [170, 0, 0, 0, 0, 0, 69, 0, 0, 0, 0, 0, 0, 0, 5, 0, 0, 0, 39, 0, 0, 0, 44, 0, 0, 0, 49, 0, 0, 0, 54, 0, 0, 0, 59, 0, 0, 0, 64]
abbrev dktX2_count_1 : List UInt8 := dkwX2_count_1 ++ dktX2_count_2
def dkwX2_count_0 : List UInt8 := [27]
abbrev dktX2_count_0 : List UInt8 := dkwX2_count_0 ++ dktX2_count_1
theorem dksX2_count_0 : cX2_count.data.toList.drop 0 = dktX2_count_0 := by decide +kernel
theorem dksX2_count_1 : cX2_count.data.toList.drop 1 = dktX2_count_1 := dk_seg dksX2_count_0 1 rfl rfl
theorem dksX2_count_2 : cX2_count.data.toList.drop 40 = dktX2_count_2 := dk_seg dksX2_count_1 39 rfl rfl
theorem dksX2_count_3 : cX2_count.data.toList.drop 64 = dktX2_count_3 := dk_seg dksX2_count_2 24 rfl rfl
theorem dX2_count_0 : decode cX2_count 0 = .ok (.iload_n 1, 1) := dk_27 (dk_at dksX2_count_0 0 rfl rfl)
theorem dX2_count_1 : decode cX2_count 1 = .ok (.tableswitch 69 0 5 #[39, 44, 49, 54, 59, 64], 39) := by decide +kernel
theorem dX2_count_40 : decode cX2_count 40 = .ok (.aload_n 0, 1) := dk_42 (dk_at dksX2_count_2 0 rfl rfl)
theorem dX2_count_41 : decode cX2_count 41 = .ok (.getfield 77, 3) := dk_180 0 77 (dk_at dksX2_count_2 1 rfl rfl)
theorem dX2_count_44 : decode cX2_count 44 = .ok (.ireturn, 1) := dk_172 (dk_at dksX2_count_2 4 rfl rfl)
theorem dX2_count_45 : decode cX2_count 45 = .ok (.aload_n 0, 1) := dk_42 (dk_at dksX2_count_2 5 rfl rfl)
theorem dX2_count_46 : decode cX2_count 46 = .ok (.getfield 80, 3) := dk_180 0 80 (dk_at dksX2_count_2 6 rfl rfl)
theorem dX2_count_49 : decode cX2_count 49 = .ok (.ireturn, 1) := dk_172 (dk_at dksX2_count_2 9 rfl rfl)
theorem dX2_count_50 : decode cX2_count 50 = .ok (.aload_n 0, 1) := dk_42 (dk_at dksX2_count_2 10 rfl rfl)
theorem dX2_count_51 : decode cX2_count 51 = .ok (.getfield 83, 3) := dk_180 0 83 (dk_at dksX2_count_2 11 rfl rfl)
theorem dX2_count_54 : decode cX2_count 54 = .ok (.ireturn, 1) := dk_172 (dk_at dksX2_count_2 14 rfl rfl)
theorem dX2_count_55 : decode cX2_count 55 = .ok (.aload_n 0, 1) := dk_42 (dk_at dksX2_count_2 15 rfl rfl)
theorem dX2_count_56 : decode cX2_count 56 = .ok (.getfield 86, 3) := dk_180 0 86 (dk_at dksX2_count_2 16 rfl rfl)
theorem dX2_count_59 : decode cX2_count 59 = .ok (.ireturn, 1) := dk_172 (dk_at dksX2_count_2 19 rfl rfl)
theorem dX2_count_60 : decode cX2_count 60 = .ok (.aload_n 0, 1) := dk_42 (dk_at dksX2_count_2 20 rfl rfl)
theorem dX2_count_61 : decode cX2_count 61 = .ok (.getfield 89, 3) := dk_180 0 89 (dk_at dksX2_count_2 21 rfl rfl)
theorem dX2_count_64 : decode cX2_count 64 = .ok (.ireturn, 1) := dk_172 (dk_at dksX2_count_3 0 rfl rfl)
theorem dX2_count_65 : decode cX2_count 65 = .ok (.aload_n 0, 1) := dk_42 (dk_at dksX2_count_3 1 rfl rfl)
theorem dX2_count_66 : decode cX2_count 66 = .ok (.invokevirtual 294, 3) := dk_182 1 38 (dk_at dksX2_count_3 2 rfl rfl)
theorem dX2_count_69 : decode cX2_count 69 = .ok (.ireturn, 1) := dk_172 (dk_at dksX2_count_3 5 rfl rfl)
theorem dX2_count_70 : decode cX2_count 70 = .ok (.aload_n 0, 1) := dk_42 (dk_at dksX2_count_3 6 rfl rfl)
theorem dX2_count_71 : decode cX2_count 71 = .ok (.invokevirtual 297, 3) := dk_182 1 41 (dk_at dksX2_count_3 7 rfl rfl)
theorem dX2_count_74 : decode cX2_count 74 = .ok (.ireturn, 1) := dk_172 (dk_at dksX2_count_3 10 rfl rfl)
abbrev cX2_pairs : ByteArray := prog_5_method_27_code
def yX2_pairs : MethodName := ⟨RX2, "pairs", "()I"⟩
def dkwX2_pairs_1 : List UInt8 := [60, 132, 2, 1, 167, 255, 232, 27, 5, 108, 172]
abbrev dktX2_pairs_1 : List UInt8 := dkwX2_pairs_1 ++ []
def dkwX2_pairs_0 : List UInt8 := [3, 60, 3, 61, 28, 42, 180, 0, 12, 182, 0, 45, 162, 0, 19, 27, 42, 28, 182, 1, 44, 4, 100, 96]
abbrev dktX2_pairs_0 : List UInt8 := dkwX2_pairs_0 ++ dktX2_pairs_1
theorem dksX2_pairs_0 : cX2_pairs.data.toList.drop 0 = dktX2_pairs_0 := by decide +kernel
theorem dksX2_pairs_1 : cX2_pairs.data.toList.drop 24 = dktX2_pairs_1 := dk_seg dksX2_pairs_0 24 rfl rfl
theorem dX2_pairs_0 : decode cX2_pairs 0 = .ok (.iconst 0, 1) := dk_3 (dk_at dksX2_pairs_0 0 rfl rfl)
theorem dX2_pairs_1 : decode cX2_pairs 1 = .ok (.istore_n 1, 1) := dk_60 (dk_at dksX2_pairs_0 1 rfl rfl)
theorem dX2_pairs_2 : decode cX2_pairs 2 = .ok (.iconst 0, 1) := dk_3 (dk_at dksX2_pairs_0 2 rfl rfl)
theorem dX2_pairs_3 : decode cX2_pairs 3 = .ok (.istore_n 2, 1) := dk_61 (dk_at dksX2_pairs_0 3 rfl rfl)
theorem dX2_pairs_4 : decode cX2_pairs 4 = .ok (.iload_n 2, 1) := dk_28 (dk_at dksX2_pairs_0 4 rfl rfl)
theorem dX2_pairs_5 : decode cX2_pairs 5 = .ok (.aload_n 0, 1) := dk_42 (dk_at dksX2_pairs_0 5 rfl rfl)
theorem dX2_pairs_6 : decode cX2_pairs 6 = .ok (.getfield 12, 3) := dk_180 0 12 (dk_at dksX2_pairs_0 6 rfl rfl)
theorem dX2_pairs_9 : decode cX2_pairs 9 = .ok (.invokevirtual 45, 3) := dk_182 0 45 (dk_at dksX2_pairs_0 9 rfl rfl)
theorem dX2_pairs_12 : decode cX2_pairs 12 = .ok (.if_icmp .ge 19, 3) := dk_162 0 19 (dk_at dksX2_pairs_0 12 rfl rfl)
theorem dX2_pairs_15 : decode cX2_pairs 15 = .ok (.iload_n 1, 1) := dk_27 (dk_at dksX2_pairs_0 15 rfl rfl)
theorem dX2_pairs_16 : decode cX2_pairs 16 = .ok (.aload_n 0, 1) := dk_42 (dk_at dksX2_pairs_0 16 rfl rfl)
theorem dX2_pairs_17 : decode cX2_pairs 17 = .ok (.iload_n 2, 1) := dk_28 (dk_at dksX2_pairs_0 17 rfl rfl)
theorem dX2_pairs_18 : decode cX2_pairs 18 = .ok (.invokevirtual 300, 3) := dk_182 1 44 (dk_at dksX2_pairs_0 18 rfl rfl)
theorem dX2_pairs_21 : decode cX2_pairs 21 = .ok (.iconst 1, 1) := dk_4 (dk_at dksX2_pairs_0 21 rfl rfl)
theorem dX2_pairs_22 : decode cX2_pairs 22 = .ok (.isub, 1) := dk_100 (dk_at dksX2_pairs_0 22 rfl rfl)
theorem dX2_pairs_23 : decode cX2_pairs 23 = .ok (.iadd, 1) := dk_96 (dk_at dksX2_pairs_0 23 rfl rfl)
theorem dX2_pairs_24 : decode cX2_pairs 24 = .ok (.istore_n 1, 1) := dk_60 (dk_at dksX2_pairs_1 0 rfl rfl)
theorem dX2_pairs_25 : decode cX2_pairs 25 = .ok (.iinc 2 1, 3) := dk_132 2 1 (dk_at dksX2_pairs_1 1 rfl rfl)
theorem dX2_pairs_28 : decode cX2_pairs 28 = .ok (.goto (-24), 3) := dk_167 255 232 (dk_at dksX2_pairs_1 4 rfl rfl)
theorem dX2_pairs_31 : decode cX2_pairs 31 = .ok (.iload_n 1, 1) := dk_27 (dk_at dksX2_pairs_1 7 rfl rfl)
theorem dX2_pairs_32 : decode cX2_pairs 32 = .ok (.iconst 2, 1) := dk_5 (dk_at dksX2_pairs_1 8 rfl rfl)
theorem dX2_pairs_33 : decode cX2_pairs 33 = .ok (.idiv, 1) := dk_108 (dk_at dksX2_pairs_1 9 rfl rfl)
theorem dX2_pairs_34 : decode cX2_pairs 34 = .ok (.ireturn, 1) := dk_172 (dk_at dksX2_pairs_1 10 rfl rfl)
abbrev cX2_reachedFrom : ByteArray := prog_5_method_26_code
def yX2_reachedFrom : MethodName := ⟨RX2, "reachedFrom", "(I)I"⟩
def dkwX2_reachedFrom_2 : List UInt8 := [21, 7, 153, 0, 7, 4, 167, 0, 4, 3, 96, 62, 132, 6, 1, 167, 255, 226, 29, 172]
abbrev dktX2_reachedFrom_2 : List UInt8 := dkwX2_reachedFrom_2 ++ []
def dkwX2_reachedFrom_1 : List UInt8 := [25, 4, 190, 54, 5, 3, 54, 6, 21, 6, 21, 5, 162, 0, 29, 25, 4, 21, 6, 51, 54, 7, 29]
abbrev dktX2_reachedFrom_1 : List UInt8 := dkwX2_reachedFrom_1 ++ dktX2_reachedFrom_2
def dkwX2_reachedFrom_0 : List UInt8 := [42, 180, 0, 12, 182, 0, 45, 188, 4, 77, 44, 27, 4, 84, 42, 44, 182, 1, 6, 3, 62, 44, 58, 4]
abbrev dktX2_reachedFrom_0 : List UInt8 := dkwX2_reachedFrom_0 ++ dktX2_reachedFrom_1
theorem dksX2_reachedFrom_0 : cX2_reachedFrom.data.toList.drop 0 = dktX2_reachedFrom_0 := by decide +kernel
theorem dksX2_reachedFrom_1 : cX2_reachedFrom.data.toList.drop 24 = dktX2_reachedFrom_1 := dk_seg dksX2_reachedFrom_0 24 rfl rfl
theorem dksX2_reachedFrom_2 : cX2_reachedFrom.data.toList.drop 47 = dktX2_reachedFrom_2 := dk_seg dksX2_reachedFrom_1 23 rfl rfl
theorem dX2_reachedFrom_0 : decode cX2_reachedFrom 0 = .ok (.aload_n 0, 1) := dk_42 (dk_at dksX2_reachedFrom_0 0 rfl rfl)
theorem dX2_reachedFrom_1 : decode cX2_reachedFrom 1 = .ok (.getfield 12, 3) := dk_180 0 12 (dk_at dksX2_reachedFrom_0 1 rfl rfl)
theorem dX2_reachedFrom_4 : decode cX2_reachedFrom 4 = .ok (.invokevirtual 45, 3) := dk_182 0 45 (dk_at dksX2_reachedFrom_0 4 rfl rfl)
theorem dX2_reachedFrom_7 : decode cX2_reachedFrom 7 = .ok (.newarray .boolean, 2) := dk_188_4 (dk_at dksX2_reachedFrom_0 7 rfl rfl)
theorem dX2_reachedFrom_9 : decode cX2_reachedFrom 9 = .ok (.astore_n 2, 1) := dk_77 (dk_at dksX2_reachedFrom_0 9 rfl rfl)
theorem dX2_reachedFrom_10 : decode cX2_reachedFrom 10 = .ok (.aload_n 2, 1) := dk_44 (dk_at dksX2_reachedFrom_0 10 rfl rfl)
theorem dX2_reachedFrom_11 : decode cX2_reachedFrom 11 = .ok (.iload_n 1, 1) := dk_27 (dk_at dksX2_reachedFrom_0 11 rfl rfl)
theorem dX2_reachedFrom_12 : decode cX2_reachedFrom 12 = .ok (.iconst 1, 1) := dk_4 (dk_at dksX2_reachedFrom_0 12 rfl rfl)
theorem dX2_reachedFrom_13 : decode cX2_reachedFrom 13 = .ok (.bastore, 1) := dk_84 (dk_at dksX2_reachedFrom_0 13 rfl rfl)
theorem dX2_reachedFrom_14 : decode cX2_reachedFrom 14 = .ok (.aload_n 0, 1) := dk_42 (dk_at dksX2_reachedFrom_0 14 rfl rfl)
theorem dX2_reachedFrom_15 : decode cX2_reachedFrom 15 = .ok (.aload_n 2, 1) := dk_44 (dk_at dksX2_reachedFrom_0 15 rfl rfl)
theorem dX2_reachedFrom_16 : decode cX2_reachedFrom 16 = .ok (.invokevirtual 262, 3) := dk_182 1 6 (dk_at dksX2_reachedFrom_0 16 rfl rfl)
theorem dX2_reachedFrom_19 : decode cX2_reachedFrom 19 = .ok (.iconst 0, 1) := dk_3 (dk_at dksX2_reachedFrom_0 19 rfl rfl)
theorem dX2_reachedFrom_20 : decode cX2_reachedFrom 20 = .ok (.istore_n 3, 1) := dk_62 (dk_at dksX2_reachedFrom_0 20 rfl rfl)
theorem dX2_reachedFrom_21 : decode cX2_reachedFrom 21 = .ok (.aload_n 2, 1) := dk_44 (dk_at dksX2_reachedFrom_0 21 rfl rfl)
theorem dX2_reachedFrom_22 : decode cX2_reachedFrom 22 = .ok (.astore 4, 2) := dk_58 4 (dk_at dksX2_reachedFrom_0 22 rfl rfl)
theorem dX2_reachedFrom_24 : decode cX2_reachedFrom 24 = .ok (.aload 4, 2) := dk_25 4 (dk_at dksX2_reachedFrom_1 0 rfl rfl)
theorem dX2_reachedFrom_26 : decode cX2_reachedFrom 26 = .ok (.arraylength, 1) := dk_190 (dk_at dksX2_reachedFrom_1 2 rfl rfl)
theorem dX2_reachedFrom_27 : decode cX2_reachedFrom 27 = .ok (.istore 5, 2) := dk_54 5 (dk_at dksX2_reachedFrom_1 3 rfl rfl)
theorem dX2_reachedFrom_29 : decode cX2_reachedFrom 29 = .ok (.iconst 0, 1) := dk_3 (dk_at dksX2_reachedFrom_1 5 rfl rfl)
theorem dX2_reachedFrom_30 : decode cX2_reachedFrom 30 = .ok (.istore 6, 2) := dk_54 6 (dk_at dksX2_reachedFrom_1 6 rfl rfl)
theorem dX2_reachedFrom_32 : decode cX2_reachedFrom 32 = .ok (.iload 6, 2) := dk_21 6 (dk_at dksX2_reachedFrom_1 8 rfl rfl)
theorem dX2_reachedFrom_34 : decode cX2_reachedFrom 34 = .ok (.iload 5, 2) := dk_21 5 (dk_at dksX2_reachedFrom_1 10 rfl rfl)
theorem dX2_reachedFrom_36 : decode cX2_reachedFrom 36 = .ok (.if_icmp .ge 29, 3) := dk_162 0 29 (dk_at dksX2_reachedFrom_1 12 rfl rfl)
theorem dX2_reachedFrom_39 : decode cX2_reachedFrom 39 = .ok (.aload 4, 2) := dk_25 4 (dk_at dksX2_reachedFrom_1 15 rfl rfl)
theorem dX2_reachedFrom_41 : decode cX2_reachedFrom 41 = .ok (.iload 6, 2) := dk_21 6 (dk_at dksX2_reachedFrom_1 17 rfl rfl)
theorem dX2_reachedFrom_43 : decode cX2_reachedFrom 43 = .ok (.baload, 1) := dk_51 (dk_at dksX2_reachedFrom_1 19 rfl rfl)
theorem dX2_reachedFrom_44 : decode cX2_reachedFrom 44 = .ok (.istore 7, 2) := dk_54 7 (dk_at dksX2_reachedFrom_1 20 rfl rfl)
theorem dX2_reachedFrom_46 : decode cX2_reachedFrom 46 = .ok (.iload_n 3, 1) := dk_29 (dk_at dksX2_reachedFrom_1 22 rfl rfl)
theorem dX2_reachedFrom_47 : decode cX2_reachedFrom 47 = .ok (.iload 7, 2) := dk_21 7 (dk_at dksX2_reachedFrom_2 0 rfl rfl)
theorem dX2_reachedFrom_49 : decode cX2_reachedFrom 49 = .ok (.ifCond .eq 7, 3) := dk_153 0 7 (dk_at dksX2_reachedFrom_2 2 rfl rfl)
theorem dX2_reachedFrom_52 : decode cX2_reachedFrom 52 = .ok (.iconst 1, 1) := dk_4 (dk_at dksX2_reachedFrom_2 5 rfl rfl)
theorem dX2_reachedFrom_53 : decode cX2_reachedFrom 53 = .ok (.goto 4, 3) := dk_167 0 4 (dk_at dksX2_reachedFrom_2 6 rfl rfl)
theorem dX2_reachedFrom_56 : decode cX2_reachedFrom 56 = .ok (.iconst 0, 1) := dk_3 (dk_at dksX2_reachedFrom_2 9 rfl rfl)
theorem dX2_reachedFrom_57 : decode cX2_reachedFrom 57 = .ok (.iadd, 1) := dk_96 (dk_at dksX2_reachedFrom_2 10 rfl rfl)
theorem dX2_reachedFrom_58 : decode cX2_reachedFrom 58 = .ok (.istore_n 3, 1) := dk_62 (dk_at dksX2_reachedFrom_2 11 rfl rfl)
theorem dX2_reachedFrom_59 : decode cX2_reachedFrom 59 = .ok (.iinc 6 1, 3) := dk_132 6 1 (dk_at dksX2_reachedFrom_2 12 rfl rfl)
theorem dX2_reachedFrom_62 : decode cX2_reachedFrom 62 = .ok (.goto (-30), 3) := dk_167 255 226 (dk_at dksX2_reachedFrom_2 15 rfl rfl)
theorem dX2_reachedFrom_65 : decode cX2_reachedFrom 65 = .ok (.iload_n 3, 1) := dk_29 (dk_at dksX2_reachedFrom_2 18 rfl rfl)
theorem dX2_reachedFrom_66 : decode cX2_reachedFrom 66 = .ok (.ireturn, 1) := dk_172 (dk_at dksX2_reachedFrom_2 19 rfl rfl)
abbrev cX2_send : ByteArray := prog_5_method_22_code
def yX2_send : MethodName := ⟨RX2, "send", "(II)I"⟩
def dkwX2_send_16 : List UInt8 := [96, 181, 0, 89, 21, 6, 21, 7, 153, 0, 9, 17, 3, 232, 167, 0, 4, 3, 96, 172]
abbrev dktX2_send_16 : List UInt8 := dkwX2_send_16 ++ []
def dkwX2_send_15 : List UInt8 := [180, 0, 86, 21, 7, 153, 0, 7, 4, 167, 0, 4, 3, 96, 181, 0, 86, 42, 89, 180, 0, 89, 21, 6]
abbrev dktX2_send_15 : List UInt8 := dkwX2_send_15 ++ dktX2_send_16
def dkwX2_send_14 : List UInt8 := [132, 12, 1, 167, 255, 114, 132, 8, 1, 167, 255, 31, 42, 89, 180, 0, 83, 4, 96, 181, 0, 83, 42, 89]
abbrev dktX2_send_14 : List UInt8 := dkwX2_send_14 ++ dktX2_send_15
def dkwX2_send_13 : List UInt8 := [182, 0, 229, 21, 12, 79, 45, 21, 5, 25, 13, 45, 21, 8, 46, 182, 0, 229, 79, 132, 5, 1]
abbrev dktX2_send_13 : List UInt8 := dkwX2_send_13 ++ dktX2_send_14
def dkwX2_send_12 : List UInt8 := [25, 13, 45, 21, 8, 46, 182, 0, 229, 46, 2, 160, 0, 33, 25, 4, 25, 13, 45, 21, 8, 46]
abbrev dktX2_send_12 : List UInt8 := dkwX2_send_12 ++ dktX2_send_13
def dkwX2_send_11 : List UInt8 := [54, 14, 21, 6, 21, 14, 153, 0, 7, 4, 167, 0, 4, 3, 96, 54, 6, 21, 14, 153, 0, 49, 25, 4]
abbrev dktX2_send_11 : List UInt8 := dkwX2_send_11 ++ dktX2_send_12
def dkwX2_send_10 : List UInt8 := [21, 10, 159, 0, 20, 21, 11, 2, 159, 0, 10, 21, 11, 21, 12, 160, 0, 7, 4, 167, 0, 4, 3]
abbrev dktX2_send_10 : List UInt8 := dkwX2_send_10 ++ dktX2_send_11
def dkwX2_send_9 : List UInt8 := [58, 13, 25, 13, 45, 21, 8, 46, 182, 0, 226, 153, 0, 35, 25, 13, 182, 1, 2, 153, 0, 27, 21, 12]
abbrev dktX2_send_9 : List UInt8 := dkwX2_send_9 ++ dktX2_send_10
def dkwX2_send_8 : List UInt8 := [21, 12, 42, 180, 0, 18, 182, 0, 45, 162, 0, 136, 42, 180, 0, 18, 21, 12, 182, 0, 49, 192, 0, 63]
abbrev dktX2_send_8 : List UInt8 := dkwX2_send_8 ++ dktX2_send_9
def dkwX2_send_7 : List UInt8 := [160, 0, 9, 4, 54, 7, 167, 0, 162, 42, 25, 9, 28, 21, 10, 182, 1, 31, 54, 11, 3, 54, 12]
abbrev dktX2_send_7 : List UInt8 := dkwX2_send_7 ++ dktX2_send_8
def dkwX2_send_6 : List UInt8 := [25, 9, 27, 21, 10, 42, 180, 0, 74, 182, 1, 28, 42, 180, 0, 21, 28, 46, 45, 21, 8, 46]
abbrev dktX2_send_6 : List UInt8 := dkwX2_send_6 ++ dktX2_send_7
def dkwX2_send_5 : List UInt8 := [180, 0, 12, 45, 21, 8, 46, 182, 0, 49, 192, 0, 53, 58, 9, 25, 4, 45, 21, 8, 46, 46, 54, 10]
abbrev dktX2_send_5 : List UInt8 := dkwX2_send_5 ++ dktX2_send_6
def dkwX2_send_4 : List UInt8 := [27, 46, 16, 100, 79, 3, 54, 6, 3, 54, 7, 3, 54, 8, 21, 8, 21, 5, 162, 0, 224, 42]
abbrev dktX2_send_4 : List UInt8 := dkwX2_send_4 ++ dktX2_send_5
def dkwX2_send_3 : List UInt8 := [25, 4, 2, 184, 0, 95, 4, 54, 5, 45, 3, 42, 180, 0, 21, 27, 46, 79, 25, 4, 42, 180, 0, 21]
abbrev dktX2_send_3 : List UInt8 := dkwX2_send_3 ++ dktX2_send_4
def dkwX2_send_2 : List UInt8 := [184, 0, 127, 42, 180, 0, 12, 182, 0, 45, 188, 10, 78, 42, 180, 0, 12, 182, 0, 45, 188, 10, 58, 4]
abbrev dktX2_send_2 : List UInt8 := dkwX2_send_2 ++ dktX2_send_3
def dkwX2_send_1 : List UInt8 := [4, 167, 0, 4, 3, 19, 1, 24, 184, 0, 111, 27, 28, 159, 0, 7, 4, 167, 0, 4, 3, 19, 1, 26]
abbrev dktX2_send_1 : List UInt8 := dkwX2_send_1 ++ dktX2_send_2
def dkwX2_send_0 : List UInt8 := [27, 133, 9, 20, 0, 171, 184, 0, 101, 153, 0, 19, 28, 133, 9, 20, 0, 171, 184, 0, 101, 153, 0, 7]
abbrev dktX2_send_0 : List UInt8 := dkwX2_send_0 ++ dktX2_send_1
theorem dksX2_send_0 : cX2_send.data.toList.drop 0 = dktX2_send_0 := by decide +kernel
theorem dksX2_send_1 : cX2_send.data.toList.drop 24 = dktX2_send_1 := dk_seg dksX2_send_0 24 rfl rfl
theorem dksX2_send_2 : cX2_send.data.toList.drop 48 = dktX2_send_2 := dk_seg dksX2_send_1 24 rfl rfl
theorem dksX2_send_3 : cX2_send.data.toList.drop 72 = dktX2_send_3 := dk_seg dksX2_send_2 24 rfl rfl
theorem dksX2_send_4 : cX2_send.data.toList.drop 96 = dktX2_send_4 := dk_seg dksX2_send_3 24 rfl rfl
theorem dksX2_send_5 : cX2_send.data.toList.drop 118 = dktX2_send_5 := dk_seg dksX2_send_4 22 rfl rfl
theorem dksX2_send_6 : cX2_send.data.toList.drop 142 = dktX2_send_6 := dk_seg dksX2_send_5 24 rfl rfl
theorem dksX2_send_7 : cX2_send.data.toList.drop 164 = dktX2_send_7 := dk_seg dksX2_send_6 22 rfl rfl
theorem dksX2_send_8 : cX2_send.data.toList.drop 187 = dktX2_send_8 := dk_seg dksX2_send_7 23 rfl rfl
theorem dksX2_send_9 : cX2_send.data.toList.drop 211 = dktX2_send_9 := dk_seg dksX2_send_8 24 rfl rfl
theorem dksX2_send_10 : cX2_send.data.toList.drop 235 = dktX2_send_10 := dk_seg dksX2_send_9 24 rfl rfl
theorem dksX2_send_11 : cX2_send.data.toList.drop 258 = dktX2_send_11 := dk_seg dksX2_send_10 23 rfl rfl
theorem dksX2_send_12 : cX2_send.data.toList.drop 282 = dktX2_send_12 := dk_seg dksX2_send_11 24 rfl rfl
theorem dksX2_send_13 : cX2_send.data.toList.drop 304 = dktX2_send_13 := dk_seg dksX2_send_12 22 rfl rfl
theorem dksX2_send_14 : cX2_send.data.toList.drop 326 = dktX2_send_14 := dk_seg dksX2_send_13 22 rfl rfl
theorem dksX2_send_15 : cX2_send.data.toList.drop 350 = dktX2_send_15 := dk_seg dksX2_send_14 24 rfl rfl
theorem dksX2_send_16 : cX2_send.data.toList.drop 374 = dktX2_send_16 := dk_seg dksX2_send_15 24 rfl rfl
theorem dX2_send_0 : decode cX2_send 0 = .ok (.iload_n 1, 1) := dk_27 (dk_at dksX2_send_0 0 rfl rfl)
theorem dX2_send_1 : decode cX2_send 1 = .ok (.i2l, 1) := dk_133 (dk_at dksX2_send_0 1 rfl rfl)
theorem dX2_send_2 : decode cX2_send 2 = .ok (.lconst 0, 1) := dk_9 (dk_at dksX2_send_0 2 rfl rfl)
theorem dX2_send_3 : decode cX2_send 3 = .ok (.ldc2_w 171, 3) := dk_20 0 171 (dk_at dksX2_send_0 3 rfl rfl)
theorem dX2_send_6 : decode cX2_send 6 = .ok (.invokestatic 101, 3) := dk_184 0 101 (dk_at dksX2_send_0 6 rfl rfl)
theorem dX2_send_9 : decode cX2_send 9 = .ok (.ifCond .eq 19, 3) := dk_153 0 19 (dk_at dksX2_send_0 9 rfl rfl)
theorem dX2_send_12 : decode cX2_send 12 = .ok (.iload_n 2, 1) := dk_28 (dk_at dksX2_send_0 12 rfl rfl)
theorem dX2_send_13 : decode cX2_send 13 = .ok (.i2l, 1) := dk_133 (dk_at dksX2_send_0 13 rfl rfl)
theorem dX2_send_14 : decode cX2_send 14 = .ok (.lconst 0, 1) := dk_9 (dk_at dksX2_send_0 14 rfl rfl)
theorem dX2_send_15 : decode cX2_send 15 = .ok (.ldc2_w 171, 3) := dk_20 0 171 (dk_at dksX2_send_0 15 rfl rfl)
theorem dX2_send_18 : decode cX2_send 18 = .ok (.invokestatic 101, 3) := dk_184 0 101 (dk_at dksX2_send_0 18 rfl rfl)
theorem dX2_send_21 : decode cX2_send 21 = .ok (.ifCond .eq 7, 3) := dk_153 0 7 (dk_at dksX2_send_0 21 rfl rfl)
theorem dX2_send_24 : decode cX2_send 24 = .ok (.iconst 1, 1) := dk_4 (dk_at dksX2_send_1 0 rfl rfl)
theorem dX2_send_25 : decode cX2_send 25 = .ok (.goto 4, 3) := dk_167 0 4 (dk_at dksX2_send_1 1 rfl rfl)
theorem dX2_send_28 : decode cX2_send 28 = .ok (.iconst 0, 1) := dk_3 (dk_at dksX2_send_1 4 rfl rfl)
theorem dX2_send_29 : decode cX2_send 29 = .ok (.ldc_w 280, 3) := dk_19 1 24 (dk_at dksX2_send_1 5 rfl rfl)
theorem dX2_send_32 : decode cX2_send 32 = .ok (.invokestatic 111, 3) := dk_184 0 111 (dk_at dksX2_send_1 8 rfl rfl)
theorem dX2_send_35 : decode cX2_send 35 = .ok (.iload_n 1, 1) := dk_27 (dk_at dksX2_send_1 11 rfl rfl)
theorem dX2_send_36 : decode cX2_send 36 = .ok (.iload_n 2, 1) := dk_28 (dk_at dksX2_send_1 12 rfl rfl)
theorem dX2_send_37 : decode cX2_send 37 = .ok (.if_icmp .eq 7, 3) := dk_159 0 7 (dk_at dksX2_send_1 13 rfl rfl)
theorem dX2_send_40 : decode cX2_send 40 = .ok (.iconst 1, 1) := dk_4 (dk_at dksX2_send_1 16 rfl rfl)
theorem dX2_send_41 : decode cX2_send 41 = .ok (.goto 4, 3) := dk_167 0 4 (dk_at dksX2_send_1 17 rfl rfl)
theorem dX2_send_44 : decode cX2_send 44 = .ok (.iconst 0, 1) := dk_3 (dk_at dksX2_send_1 20 rfl rfl)
theorem dX2_send_45 : decode cX2_send 45 = .ok (.ldc_w 282, 3) := dk_19 1 26 (dk_at dksX2_send_1 21 rfl rfl)
theorem dX2_send_48 : decode cX2_send 48 = .ok (.invokestatic 127, 3) := dk_184 0 127 (dk_at dksX2_send_2 0 rfl rfl)
theorem dX2_send_51 : decode cX2_send 51 = .ok (.aload_n 0, 1) := dk_42 (dk_at dksX2_send_2 3 rfl rfl)
theorem dX2_send_52 : decode cX2_send 52 = .ok (.getfield 12, 3) := dk_180 0 12 (dk_at dksX2_send_2 4 rfl rfl)
theorem dX2_send_55 : decode cX2_send 55 = .ok (.invokevirtual 45, 3) := dk_182 0 45 (dk_at dksX2_send_2 7 rfl rfl)
theorem dX2_send_58 : decode cX2_send 58 = .ok (.newarray .int, 2) := dk_188_10 (dk_at dksX2_send_2 10 rfl rfl)
theorem dX2_send_60 : decode cX2_send 60 = .ok (.astore_n 3, 1) := dk_78 (dk_at dksX2_send_2 12 rfl rfl)
theorem dX2_send_61 : decode cX2_send 61 = .ok (.aload_n 0, 1) := dk_42 (dk_at dksX2_send_2 13 rfl rfl)
theorem dX2_send_62 : decode cX2_send 62 = .ok (.getfield 12, 3) := dk_180 0 12 (dk_at dksX2_send_2 14 rfl rfl)
theorem dX2_send_65 : decode cX2_send 65 = .ok (.invokevirtual 45, 3) := dk_182 0 45 (dk_at dksX2_send_2 17 rfl rfl)
theorem dX2_send_68 : decode cX2_send 68 = .ok (.newarray .int, 2) := dk_188_10 (dk_at dksX2_send_2 20 rfl rfl)
theorem dX2_send_70 : decode cX2_send 70 = .ok (.astore 4, 2) := dk_58 4 (dk_at dksX2_send_2 22 rfl rfl)
theorem dX2_send_72 : decode cX2_send 72 = .ok (.aload 4, 2) := dk_25 4 (dk_at dksX2_send_3 0 rfl rfl)
theorem dX2_send_74 : decode cX2_send 74 = .ok (.iconst (-1), 1) := dk_2 (dk_at dksX2_send_3 2 rfl rfl)
theorem dX2_send_75 : decode cX2_send 75 = .ok (.invokestatic 95, 3) := dk_184 0 95 (dk_at dksX2_send_3 3 rfl rfl)
theorem dX2_send_78 : decode cX2_send 78 = .ok (.iconst 1, 1) := dk_4 (dk_at dksX2_send_3 6 rfl rfl)
theorem dX2_send_79 : decode cX2_send 79 = .ok (.istore 5, 2) := dk_54 5 (dk_at dksX2_send_3 7 rfl rfl)
theorem dX2_send_81 : decode cX2_send 81 = .ok (.aload_n 3, 1) := dk_45 (dk_at dksX2_send_3 9 rfl rfl)
theorem dX2_send_82 : decode cX2_send 82 = .ok (.iconst 0, 1) := dk_3 (dk_at dksX2_send_3 10 rfl rfl)
theorem dX2_send_83 : decode cX2_send 83 = .ok (.aload_n 0, 1) := dk_42 (dk_at dksX2_send_3 11 rfl rfl)
theorem dX2_send_84 : decode cX2_send 84 = .ok (.getfield 21, 3) := dk_180 0 21 (dk_at dksX2_send_3 12 rfl rfl)
theorem dX2_send_87 : decode cX2_send 87 = .ok (.iload_n 1, 1) := dk_27 (dk_at dksX2_send_3 15 rfl rfl)
theorem dX2_send_88 : decode cX2_send 88 = .ok (.iaload, 1) := dk_46 (dk_at dksX2_send_3 16 rfl rfl)
theorem dX2_send_89 : decode cX2_send 89 = .ok (.iastore, 1) := dk_79 (dk_at dksX2_send_3 17 rfl rfl)
theorem dX2_send_90 : decode cX2_send 90 = .ok (.aload 4, 2) := dk_25 4 (dk_at dksX2_send_3 18 rfl rfl)
theorem dX2_send_92 : decode cX2_send 92 = .ok (.aload_n 0, 1) := dk_42 (dk_at dksX2_send_3 20 rfl rfl)
theorem dX2_send_93 : decode cX2_send 93 = .ok (.getfield 21, 3) := dk_180 0 21 (dk_at dksX2_send_3 21 rfl rfl)
theorem dX2_send_96 : decode cX2_send 96 = .ok (.iload_n 1, 1) := dk_27 (dk_at dksX2_send_4 0 rfl rfl)
theorem dX2_send_97 : decode cX2_send 97 = .ok (.iaload, 1) := dk_46 (dk_at dksX2_send_4 1 rfl rfl)
theorem dX2_send_98 : decode cX2_send 98 = .ok (.bipush 100, 2) := dk_16 100 (dk_at dksX2_send_4 2 rfl rfl)
theorem dX2_send_100 : decode cX2_send 100 = .ok (.iastore, 1) := dk_79 (dk_at dksX2_send_4 4 rfl rfl)
theorem dX2_send_101 : decode cX2_send 101 = .ok (.iconst 0, 1) := dk_3 (dk_at dksX2_send_4 5 rfl rfl)
theorem dX2_send_102 : decode cX2_send 102 = .ok (.istore 6, 2) := dk_54 6 (dk_at dksX2_send_4 6 rfl rfl)
theorem dX2_send_104 : decode cX2_send 104 = .ok (.iconst 0, 1) := dk_3 (dk_at dksX2_send_4 8 rfl rfl)
theorem dX2_send_105 : decode cX2_send 105 = .ok (.istore 7, 2) := dk_54 7 (dk_at dksX2_send_4 9 rfl rfl)
theorem dX2_send_107 : decode cX2_send 107 = .ok (.iconst 0, 1) := dk_3 (dk_at dksX2_send_4 11 rfl rfl)
theorem dX2_send_108 : decode cX2_send 108 = .ok (.istore 8, 2) := dk_54 8 (dk_at dksX2_send_4 12 rfl rfl)
theorem dX2_send_110 : decode cX2_send 110 = .ok (.iload 8, 2) := dk_21 8 (dk_at dksX2_send_4 14 rfl rfl)
theorem dX2_send_112 : decode cX2_send 112 = .ok (.iload 5, 2) := dk_21 5 (dk_at dksX2_send_4 16 rfl rfl)
theorem dX2_send_114 : decode cX2_send 114 = .ok (.if_icmp .ge 224, 3) := dk_162 0 224 (dk_at dksX2_send_4 18 rfl rfl)
theorem dX2_send_117 : decode cX2_send 117 = .ok (.aload_n 0, 1) := dk_42 (dk_at dksX2_send_4 21 rfl rfl)
theorem dX2_send_118 : decode cX2_send 118 = .ok (.getfield 12, 3) := dk_180 0 12 (dk_at dksX2_send_5 0 rfl rfl)
theorem dX2_send_121 : decode cX2_send 121 = .ok (.aload_n 3, 1) := dk_45 (dk_at dksX2_send_5 3 rfl rfl)
theorem dX2_send_122 : decode cX2_send 122 = .ok (.iload 8, 2) := dk_21 8 (dk_at dksX2_send_5 4 rfl rfl)
theorem dX2_send_124 : decode cX2_send 124 = .ok (.iaload, 1) := dk_46 (dk_at dksX2_send_5 6 rfl rfl)
theorem dX2_send_125 : decode cX2_send 125 = .ok (.invokevirtual 49, 3) := dk_182 0 49 (dk_at dksX2_send_5 7 rfl rfl)
theorem dX2_send_128 : decode cX2_send 128 = .ok (.checkcast 53, 3) := dk_192 0 53 (dk_at dksX2_send_5 10 rfl rfl)
theorem dX2_send_131 : decode cX2_send 131 = .ok (.astore 9, 2) := dk_58 9 (dk_at dksX2_send_5 13 rfl rfl)
theorem dX2_send_133 : decode cX2_send 133 = .ok (.aload 4, 2) := dk_25 4 (dk_at dksX2_send_5 15 rfl rfl)
theorem dX2_send_135 : decode cX2_send 135 = .ok (.aload_n 3, 1) := dk_45 (dk_at dksX2_send_5 17 rfl rfl)
theorem dX2_send_136 : decode cX2_send 136 = .ok (.iload 8, 2) := dk_21 8 (dk_at dksX2_send_5 18 rfl rfl)
theorem dX2_send_138 : decode cX2_send 138 = .ok (.iaload, 1) := dk_46 (dk_at dksX2_send_5 20 rfl rfl)
theorem dX2_send_139 : decode cX2_send 139 = .ok (.iaload, 1) := dk_46 (dk_at dksX2_send_5 21 rfl rfl)
theorem dX2_send_140 : decode cX2_send 140 = .ok (.istore 10, 2) := dk_54 10 (dk_at dksX2_send_5 22 rfl rfl)
theorem dX2_send_142 : decode cX2_send 142 = .ok (.aload 9, 2) := dk_25 9 (dk_at dksX2_send_6 0 rfl rfl)
theorem dX2_send_144 : decode cX2_send 144 = .ok (.iload_n 1, 1) := dk_27 (dk_at dksX2_send_6 2 rfl rfl)
theorem dX2_send_145 : decode cX2_send 145 = .ok (.iload 10, 2) := dk_21 10 (dk_at dksX2_send_6 3 rfl rfl)
theorem dX2_send_147 : decode cX2_send 147 = .ok (.aload_n 0, 1) := dk_42 (dk_at dksX2_send_6 5 rfl rfl)
theorem dX2_send_148 : decode cX2_send 148 = .ok (.getfield 74, 3) := dk_180 0 74 (dk_at dksX2_send_6 6 rfl rfl)
theorem dX2_send_151 : decode cX2_send 151 = .ok (.invokevirtual 284, 3) := dk_182 1 28 (dk_at dksX2_send_6 9 rfl rfl)
theorem dX2_send_154 : decode cX2_send 154 = .ok (.aload_n 0, 1) := dk_42 (dk_at dksX2_send_6 12 rfl rfl)
theorem dX2_send_155 : decode cX2_send 155 = .ok (.getfield 21, 3) := dk_180 0 21 (dk_at dksX2_send_6 13 rfl rfl)
theorem dX2_send_158 : decode cX2_send 158 = .ok (.iload_n 2, 1) := dk_28 (dk_at dksX2_send_6 16 rfl rfl)
theorem dX2_send_159 : decode cX2_send 159 = .ok (.iaload, 1) := dk_46 (dk_at dksX2_send_6 17 rfl rfl)
theorem dX2_send_160 : decode cX2_send 160 = .ok (.aload_n 3, 1) := dk_45 (dk_at dksX2_send_6 18 rfl rfl)
theorem dX2_send_161 : decode cX2_send 161 = .ok (.iload 8, 2) := dk_21 8 (dk_at dksX2_send_6 19 rfl rfl)
theorem dX2_send_163 : decode cX2_send 163 = .ok (.iaload, 1) := dk_46 (dk_at dksX2_send_6 21 rfl rfl)
theorem dX2_send_164 : decode cX2_send 164 = .ok (.if_icmp .ne 9, 3) := dk_160 0 9 (dk_at dksX2_send_7 0 rfl rfl)
theorem dX2_send_167 : decode cX2_send 167 = .ok (.iconst 1, 1) := dk_4 (dk_at dksX2_send_7 3 rfl rfl)
theorem dX2_send_168 : decode cX2_send 168 = .ok (.istore 7, 2) := dk_54 7 (dk_at dksX2_send_7 4 rfl rfl)
theorem dX2_send_170 : decode cX2_send 170 = .ok (.goto 162, 3) := dk_167 0 162 (dk_at dksX2_send_7 6 rfl rfl)
theorem dX2_send_173 : decode cX2_send 173 = .ok (.aload_n 0, 1) := dk_42 (dk_at dksX2_send_7 9 rfl rfl)
theorem dX2_send_174 : decode cX2_send 174 = .ok (.aload 9, 2) := dk_25 9 (dk_at dksX2_send_7 10 rfl rfl)
theorem dX2_send_176 : decode cX2_send 176 = .ok (.iload_n 2, 1) := dk_28 (dk_at dksX2_send_7 12 rfl rfl)
theorem dX2_send_177 : decode cX2_send 177 = .ok (.iload 10, 2) := dk_21 10 (dk_at dksX2_send_7 13 rfl rfl)
theorem dX2_send_179 : decode cX2_send 179 = .ok (.invokevirtual 287, 3) := dk_182 1 31 (dk_at dksX2_send_7 15 rfl rfl)
theorem dX2_send_182 : decode cX2_send 182 = .ok (.istore 11, 2) := dk_54 11 (dk_at dksX2_send_7 18 rfl rfl)
theorem dX2_send_184 : decode cX2_send 184 = .ok (.iconst 0, 1) := dk_3 (dk_at dksX2_send_7 20 rfl rfl)
theorem dX2_send_185 : decode cX2_send 185 = .ok (.istore 12, 2) := dk_54 12 (dk_at dksX2_send_7 21 rfl rfl)
theorem dX2_send_187 : decode cX2_send 187 = .ok (.iload 12, 2) := dk_21 12 (dk_at dksX2_send_8 0 rfl rfl)
theorem dX2_send_189 : decode cX2_send 189 = .ok (.aload_n 0, 1) := dk_42 (dk_at dksX2_send_8 2 rfl rfl)
theorem dX2_send_190 : decode cX2_send 190 = .ok (.getfield 18, 3) := dk_180 0 18 (dk_at dksX2_send_8 3 rfl rfl)
theorem dX2_send_193 : decode cX2_send 193 = .ok (.invokevirtual 45, 3) := dk_182 0 45 (dk_at dksX2_send_8 6 rfl rfl)
theorem dX2_send_196 : decode cX2_send 196 = .ok (.if_icmp .ge 136, 3) := dk_162 0 136 (dk_at dksX2_send_8 9 rfl rfl)
theorem dX2_send_199 : decode cX2_send 199 = .ok (.aload_n 0, 1) := dk_42 (dk_at dksX2_send_8 12 rfl rfl)
theorem dX2_send_200 : decode cX2_send 200 = .ok (.getfield 18, 3) := dk_180 0 18 (dk_at dksX2_send_8 13 rfl rfl)
theorem dX2_send_203 : decode cX2_send 203 = .ok (.iload 12, 2) := dk_21 12 (dk_at dksX2_send_8 16 rfl rfl)
theorem dX2_send_205 : decode cX2_send 205 = .ok (.invokevirtual 49, 3) := dk_182 0 49 (dk_at dksX2_send_8 18 rfl rfl)
theorem dX2_send_208 : decode cX2_send 208 = .ok (.checkcast 63, 3) := dk_192 0 63 (dk_at dksX2_send_8 21 rfl rfl)
theorem dX2_send_211 : decode cX2_send 211 = .ok (.astore 13, 2) := dk_58 13 (dk_at dksX2_send_9 0 rfl rfl)
theorem dX2_send_213 : decode cX2_send 213 = .ok (.aload 13, 2) := dk_25 13 (dk_at dksX2_send_9 2 rfl rfl)
theorem dX2_send_215 : decode cX2_send 215 = .ok (.aload_n 3, 1) := dk_45 (dk_at dksX2_send_9 4 rfl rfl)
theorem dX2_send_216 : decode cX2_send 216 = .ok (.iload 8, 2) := dk_21 8 (dk_at dksX2_send_9 5 rfl rfl)
theorem dX2_send_218 : decode cX2_send 218 = .ok (.iaload, 1) := dk_46 (dk_at dksX2_send_9 7 rfl rfl)
theorem dX2_send_219 : decode cX2_send 219 = .ok (.invokevirtual 226, 3) := dk_182 0 226 (dk_at dksX2_send_9 8 rfl rfl)
theorem dX2_send_222 : decode cX2_send 222 = .ok (.ifCond .eq 35, 3) := dk_153 0 35 (dk_at dksX2_send_9 11 rfl rfl)
theorem dX2_send_225 : decode cX2_send 225 = .ok (.aload 13, 2) := dk_25 13 (dk_at dksX2_send_9 14 rfl rfl)
theorem dX2_send_227 : decode cX2_send 227 = .ok (.invokevirtual 258, 3) := dk_182 1 2 (dk_at dksX2_send_9 16 rfl rfl)
theorem dX2_send_230 : decode cX2_send 230 = .ok (.ifCond .eq 27, 3) := dk_153 0 27 (dk_at dksX2_send_9 19 rfl rfl)
theorem dX2_send_233 : decode cX2_send 233 = .ok (.iload 12, 2) := dk_21 12 (dk_at dksX2_send_9 22 rfl rfl)
theorem dX2_send_235 : decode cX2_send 235 = .ok (.iload 10, 2) := dk_21 10 (dk_at dksX2_send_10 0 rfl rfl)
theorem dX2_send_237 : decode cX2_send 237 = .ok (.if_icmp .eq 20, 3) := dk_159 0 20 (dk_at dksX2_send_10 2 rfl rfl)
theorem dX2_send_240 : decode cX2_send 240 = .ok (.iload 11, 2) := dk_21 11 (dk_at dksX2_send_10 5 rfl rfl)
theorem dX2_send_242 : decode cX2_send 242 = .ok (.iconst (-1), 1) := dk_2 (dk_at dksX2_send_10 7 rfl rfl)
theorem dX2_send_243 : decode cX2_send 243 = .ok (.if_icmp .eq 10, 3) := dk_159 0 10 (dk_at dksX2_send_10 8 rfl rfl)
theorem dX2_send_246 : decode cX2_send 246 = .ok (.iload 11, 2) := dk_21 11 (dk_at dksX2_send_10 11 rfl rfl)
theorem dX2_send_248 : decode cX2_send 248 = .ok (.iload 12, 2) := dk_21 12 (dk_at dksX2_send_10 13 rfl rfl)
theorem dX2_send_250 : decode cX2_send 250 = .ok (.if_icmp .ne 7, 3) := dk_160 0 7 (dk_at dksX2_send_10 15 rfl rfl)
theorem dX2_send_253 : decode cX2_send 253 = .ok (.iconst 1, 1) := dk_4 (dk_at dksX2_send_10 18 rfl rfl)
theorem dX2_send_254 : decode cX2_send 254 = .ok (.goto 4, 3) := dk_167 0 4 (dk_at dksX2_send_10 19 rfl rfl)
theorem dX2_send_257 : decode cX2_send 257 = .ok (.iconst 0, 1) := dk_3 (dk_at dksX2_send_10 22 rfl rfl)
theorem dX2_send_258 : decode cX2_send 258 = .ok (.istore 14, 2) := dk_54 14 (dk_at dksX2_send_11 0 rfl rfl)
theorem dX2_send_260 : decode cX2_send 260 = .ok (.iload 6, 2) := dk_21 6 (dk_at dksX2_send_11 2 rfl rfl)
theorem dX2_send_262 : decode cX2_send 262 = .ok (.iload 14, 2) := dk_21 14 (dk_at dksX2_send_11 4 rfl rfl)
theorem dX2_send_264 : decode cX2_send 264 = .ok (.ifCond .eq 7, 3) := dk_153 0 7 (dk_at dksX2_send_11 6 rfl rfl)
theorem dX2_send_267 : decode cX2_send 267 = .ok (.iconst 1, 1) := dk_4 (dk_at dksX2_send_11 9 rfl rfl)
theorem dX2_send_268 : decode cX2_send 268 = .ok (.goto 4, 3) := dk_167 0 4 (dk_at dksX2_send_11 10 rfl rfl)
theorem dX2_send_271 : decode cX2_send 271 = .ok (.iconst 0, 1) := dk_3 (dk_at dksX2_send_11 13 rfl rfl)
theorem dX2_send_272 : decode cX2_send 272 = .ok (.iadd, 1) := dk_96 (dk_at dksX2_send_11 14 rfl rfl)
theorem dX2_send_273 : decode cX2_send 273 = .ok (.istore 6, 2) := dk_54 6 (dk_at dksX2_send_11 15 rfl rfl)
theorem dX2_send_275 : decode cX2_send 275 = .ok (.iload 14, 2) := dk_21 14 (dk_at dksX2_send_11 17 rfl rfl)
theorem dX2_send_277 : decode cX2_send 277 = .ok (.ifCond .eq 49, 3) := dk_153 0 49 (dk_at dksX2_send_11 19 rfl rfl)
theorem dX2_send_280 : decode cX2_send 280 = .ok (.aload 4, 2) := dk_25 4 (dk_at dksX2_send_11 22 rfl rfl)
theorem dX2_send_282 : decode cX2_send 282 = .ok (.aload 13, 2) := dk_25 13 (dk_at dksX2_send_12 0 rfl rfl)
theorem dX2_send_284 : decode cX2_send 284 = .ok (.aload_n 3, 1) := dk_45 (dk_at dksX2_send_12 2 rfl rfl)
theorem dX2_send_285 : decode cX2_send 285 = .ok (.iload 8, 2) := dk_21 8 (dk_at dksX2_send_12 3 rfl rfl)
theorem dX2_send_287 : decode cX2_send 287 = .ok (.iaload, 1) := dk_46 (dk_at dksX2_send_12 5 rfl rfl)
theorem dX2_send_288 : decode cX2_send 288 = .ok (.invokevirtual 229, 3) := dk_182 0 229 (dk_at dksX2_send_12 6 rfl rfl)
theorem dX2_send_291 : decode cX2_send 291 = .ok (.iaload, 1) := dk_46 (dk_at dksX2_send_12 9 rfl rfl)
theorem dX2_send_292 : decode cX2_send 292 = .ok (.iconst (-1), 1) := dk_2 (dk_at dksX2_send_12 10 rfl rfl)
theorem dX2_send_293 : decode cX2_send 293 = .ok (.if_icmp .ne 33, 3) := dk_160 0 33 (dk_at dksX2_send_12 11 rfl rfl)
theorem dX2_send_296 : decode cX2_send 296 = .ok (.aload 4, 2) := dk_25 4 (dk_at dksX2_send_12 14 rfl rfl)
theorem dX2_send_298 : decode cX2_send 298 = .ok (.aload 13, 2) := dk_25 13 (dk_at dksX2_send_12 16 rfl rfl)
theorem dX2_send_300 : decode cX2_send 300 = .ok (.aload_n 3, 1) := dk_45 (dk_at dksX2_send_12 18 rfl rfl)
theorem dX2_send_301 : decode cX2_send 301 = .ok (.iload 8, 2) := dk_21 8 (dk_at dksX2_send_12 19 rfl rfl)
theorem dX2_send_303 : decode cX2_send 303 = .ok (.iaload, 1) := dk_46 (dk_at dksX2_send_12 21 rfl rfl)
theorem dX2_send_304 : decode cX2_send 304 = .ok (.invokevirtual 229, 3) := dk_182 0 229 (dk_at dksX2_send_13 0 rfl rfl)
theorem dX2_send_307 : decode cX2_send 307 = .ok (.iload 12, 2) := dk_21 12 (dk_at dksX2_send_13 3 rfl rfl)
theorem dX2_send_309 : decode cX2_send 309 = .ok (.iastore, 1) := dk_79 (dk_at dksX2_send_13 5 rfl rfl)
theorem dX2_send_310 : decode cX2_send 310 = .ok (.aload_n 3, 1) := dk_45 (dk_at dksX2_send_13 6 rfl rfl)
theorem dX2_send_311 : decode cX2_send 311 = .ok (.iload 5, 2) := dk_21 5 (dk_at dksX2_send_13 7 rfl rfl)
theorem dX2_send_313 : decode cX2_send 313 = .ok (.aload 13, 2) := dk_25 13 (dk_at dksX2_send_13 9 rfl rfl)
theorem dX2_send_315 : decode cX2_send 315 = .ok (.aload_n 3, 1) := dk_45 (dk_at dksX2_send_13 11 rfl rfl)
theorem dX2_send_316 : decode cX2_send 316 = .ok (.iload 8, 2) := dk_21 8 (dk_at dksX2_send_13 12 rfl rfl)
theorem dX2_send_318 : decode cX2_send 318 = .ok (.iaload, 1) := dk_46 (dk_at dksX2_send_13 14 rfl rfl)
theorem dX2_send_319 : decode cX2_send 319 = .ok (.invokevirtual 229, 3) := dk_182 0 229 (dk_at dksX2_send_13 15 rfl rfl)
theorem dX2_send_322 : decode cX2_send 322 = .ok (.iastore, 1) := dk_79 (dk_at dksX2_send_13 18 rfl rfl)
theorem dX2_send_323 : decode cX2_send 323 = .ok (.iinc 5 1, 3) := dk_132 5 1 (dk_at dksX2_send_13 19 rfl rfl)
theorem dX2_send_326 : decode cX2_send 326 = .ok (.iinc 12 1, 3) := dk_132 12 1 (dk_at dksX2_send_14 0 rfl rfl)
theorem dX2_send_329 : decode cX2_send 329 = .ok (.goto (-142), 3) := dk_167 255 114 (dk_at dksX2_send_14 3 rfl rfl)
theorem dX2_send_332 : decode cX2_send 332 = .ok (.iinc 8 1, 3) := dk_132 8 1 (dk_at dksX2_send_14 6 rfl rfl)
theorem dX2_send_335 : decode cX2_send 335 = .ok (.goto (-225), 3) := dk_167 255 31 (dk_at dksX2_send_14 9 rfl rfl)
theorem dX2_send_338 : decode cX2_send 338 = .ok (.aload_n 0, 1) := dk_42 (dk_at dksX2_send_14 12 rfl rfl)
theorem dX2_send_339 : decode cX2_send 339 = .ok (.dup, 1) := dk_89 (dk_at dksX2_send_14 13 rfl rfl)
theorem dX2_send_340 : decode cX2_send 340 = .ok (.getfield 83, 3) := dk_180 0 83 (dk_at dksX2_send_14 14 rfl rfl)
theorem dX2_send_343 : decode cX2_send 343 = .ok (.iconst 1, 1) := dk_4 (dk_at dksX2_send_14 17 rfl rfl)
theorem dX2_send_344 : decode cX2_send 344 = .ok (.iadd, 1) := dk_96 (dk_at dksX2_send_14 18 rfl rfl)
theorem dX2_send_345 : decode cX2_send 345 = .ok (.putfield 83, 3) := dk_181 0 83 (dk_at dksX2_send_14 19 rfl rfl)
theorem dX2_send_348 : decode cX2_send 348 = .ok (.aload_n 0, 1) := dk_42 (dk_at dksX2_send_14 22 rfl rfl)
theorem dX2_send_349 : decode cX2_send 349 = .ok (.dup, 1) := dk_89 (dk_at dksX2_send_14 23 rfl rfl)
theorem dX2_send_350 : decode cX2_send 350 = .ok (.getfield 86, 3) := dk_180 0 86 (dk_at dksX2_send_15 0 rfl rfl)
theorem dX2_send_353 : decode cX2_send 353 = .ok (.iload 7, 2) := dk_21 7 (dk_at dksX2_send_15 3 rfl rfl)
theorem dX2_send_355 : decode cX2_send 355 = .ok (.ifCond .eq 7, 3) := dk_153 0 7 (dk_at dksX2_send_15 5 rfl rfl)
theorem dX2_send_358 : decode cX2_send 358 = .ok (.iconst 1, 1) := dk_4 (dk_at dksX2_send_15 8 rfl rfl)
theorem dX2_send_359 : decode cX2_send 359 = .ok (.goto 4, 3) := dk_167 0 4 (dk_at dksX2_send_15 9 rfl rfl)
theorem dX2_send_362 : decode cX2_send 362 = .ok (.iconst 0, 1) := dk_3 (dk_at dksX2_send_15 12 rfl rfl)
theorem dX2_send_363 : decode cX2_send 363 = .ok (.iadd, 1) := dk_96 (dk_at dksX2_send_15 13 rfl rfl)
theorem dX2_send_364 : decode cX2_send 364 = .ok (.putfield 86, 3) := dk_181 0 86 (dk_at dksX2_send_15 14 rfl rfl)
theorem dX2_send_367 : decode cX2_send 367 = .ok (.aload_n 0, 1) := dk_42 (dk_at dksX2_send_15 17 rfl rfl)
theorem dX2_send_368 : decode cX2_send 368 = .ok (.dup, 1) := dk_89 (dk_at dksX2_send_15 18 rfl rfl)
theorem dX2_send_369 : decode cX2_send 369 = .ok (.getfield 89, 3) := dk_180 0 89 (dk_at dksX2_send_15 19 rfl rfl)
theorem dX2_send_372 : decode cX2_send 372 = .ok (.iload 6, 2) := dk_21 6 (dk_at dksX2_send_15 22 rfl rfl)
theorem dX2_send_374 : decode cX2_send 374 = .ok (.iadd, 1) := dk_96 (dk_at dksX2_send_16 0 rfl rfl)
theorem dX2_send_375 : decode cX2_send 375 = .ok (.putfield 89, 3) := dk_181 0 89 (dk_at dksX2_send_16 1 rfl rfl)
theorem dX2_send_378 : decode cX2_send 378 = .ok (.iload 6, 2) := dk_21 6 (dk_at dksX2_send_16 4 rfl rfl)
theorem dX2_send_380 : decode cX2_send 380 = .ok (.iload 7, 2) := dk_21 7 (dk_at dksX2_send_16 6 rfl rfl)
theorem dX2_send_382 : decode cX2_send 382 = .ok (.ifCond .eq 9, 3) := dk_153 0 9 (dk_at dksX2_send_16 8 rfl rfl)
theorem dX2_send_385 : decode cX2_send 385 = .ok (.sipush 1000, 3) := dk_17 3 232 (dk_at dksX2_send_16 11 rfl rfl)
theorem dX2_send_388 : decode cX2_send 388 = .ok (.goto 4, 3) := dk_167 0 4 (dk_at dksX2_send_16 14 rfl rfl)
theorem dX2_send_391 : decode cX2_send 391 = .ok (.iconst 0, 1) := dk_3 (dk_at dksX2_send_16 17 rfl rfl)
theorem dX2_send_392 : decode cX2_send 392 = .ok (.iadd, 1) := dk_96 (dk_at dksX2_send_16 18 rfl rfl)
theorem dX2_send_393 : decode cX2_send 393 = .ok (.ireturn, 1) := dk_172 (dk_at dksX2_send_16 19 rfl rfl)
abbrev cX2_wayTo : ByteArray := prog_5_method_23_code
def yX2_wayTo : MethodName := ⟨RX2, "wayTo", "(LBridgeAuction$Bridge;II)I"⟩
def dkwX2_wayTo_2 : List UInt8 := [167, 0, 4, 2, 172]
abbrev dktX2_wayTo_2 : List UInt8 := dkwX2_wayTo_2 ++ []
def dkwX2_wayTo_1 : List UInt8 := [159, 0, 26, 42, 180, 0, 18, 21, 4, 182, 0, 49, 192, 0, 63, 182, 1, 2, 153, 0, 8, 21, 4]
abbrev dktX2_wayTo_1 : List UInt8 := dkwX2_wayTo_1 ++ dktX2_wayTo_2
def dkwX2_wayTo_0 : List UInt8 := [43, 28, 42, 180, 0, 74, 182, 1, 35, 54, 4, 42, 21, 4, 182, 0, 115, 153, 0, 32, 21, 4, 29]
abbrev dktX2_wayTo_0 : List UInt8 := dkwX2_wayTo_0 ++ dktX2_wayTo_1
theorem dksX2_wayTo_0 : cX2_wayTo.data.toList.drop 0 = dktX2_wayTo_0 := by decide +kernel
theorem dksX2_wayTo_1 : cX2_wayTo.data.toList.drop 23 = dktX2_wayTo_1 := dk_seg dksX2_wayTo_0 23 rfl rfl
theorem dksX2_wayTo_2 : cX2_wayTo.data.toList.drop 46 = dktX2_wayTo_2 := dk_seg dksX2_wayTo_1 23 rfl rfl
theorem dX2_wayTo_0 : decode cX2_wayTo 0 = .ok (.aload_n 1, 1) := dk_43 (dk_at dksX2_wayTo_0 0 rfl rfl)
theorem dX2_wayTo_1 : decode cX2_wayTo 1 = .ok (.iload_n 2, 1) := dk_28 (dk_at dksX2_wayTo_0 1 rfl rfl)
theorem dX2_wayTo_2 : decode cX2_wayTo 2 = .ok (.aload_n 0, 1) := dk_42 (dk_at dksX2_wayTo_0 2 rfl rfl)
theorem dX2_wayTo_3 : decode cX2_wayTo 3 = .ok (.getfield 74, 3) := dk_180 0 74 (dk_at dksX2_wayTo_0 3 rfl rfl)
theorem dX2_wayTo_6 : decode cX2_wayTo 6 = .ok (.invokevirtual 291, 3) := dk_182 1 35 (dk_at dksX2_wayTo_0 6 rfl rfl)
theorem dX2_wayTo_9 : decode cX2_wayTo 9 = .ok (.istore 4, 2) := dk_54 4 (dk_at dksX2_wayTo_0 9 rfl rfl)
theorem dX2_wayTo_11 : decode cX2_wayTo 11 = .ok (.aload_n 0, 1) := dk_42 (dk_at dksX2_wayTo_0 11 rfl rfl)
theorem dX2_wayTo_12 : decode cX2_wayTo 12 = .ok (.iload 4, 2) := dk_21 4 (dk_at dksX2_wayTo_0 12 rfl rfl)
theorem dX2_wayTo_14 : decode cX2_wayTo 14 = .ok (.invokevirtual 115, 3) := dk_182 0 115 (dk_at dksX2_wayTo_0 14 rfl rfl)
theorem dX2_wayTo_17 : decode cX2_wayTo 17 = .ok (.ifCond .eq 32, 3) := dk_153 0 32 (dk_at dksX2_wayTo_0 17 rfl rfl)
theorem dX2_wayTo_20 : decode cX2_wayTo 20 = .ok (.iload 4, 2) := dk_21 4 (dk_at dksX2_wayTo_0 20 rfl rfl)
theorem dX2_wayTo_22 : decode cX2_wayTo 22 = .ok (.iload_n 3, 1) := dk_29 (dk_at dksX2_wayTo_0 22 rfl rfl)
theorem dX2_wayTo_23 : decode cX2_wayTo 23 = .ok (.if_icmp .eq 26, 3) := dk_159 0 26 (dk_at dksX2_wayTo_1 0 rfl rfl)
theorem dX2_wayTo_26 : decode cX2_wayTo 26 = .ok (.aload_n 0, 1) := dk_42 (dk_at dksX2_wayTo_1 3 rfl rfl)
theorem dX2_wayTo_27 : decode cX2_wayTo 27 = .ok (.getfield 18, 3) := dk_180 0 18 (dk_at dksX2_wayTo_1 4 rfl rfl)
theorem dX2_wayTo_30 : decode cX2_wayTo 30 = .ok (.iload 4, 2) := dk_21 4 (dk_at dksX2_wayTo_1 7 rfl rfl)
theorem dX2_wayTo_32 : decode cX2_wayTo 32 = .ok (.invokevirtual 49, 3) := dk_182 0 49 (dk_at dksX2_wayTo_1 9 rfl rfl)
theorem dX2_wayTo_35 : decode cX2_wayTo 35 = .ok (.checkcast 63, 3) := dk_192 0 63 (dk_at dksX2_wayTo_1 12 rfl rfl)
theorem dX2_wayTo_38 : decode cX2_wayTo 38 = .ok (.invokevirtual 258, 3) := dk_182 1 2 (dk_at dksX2_wayTo_1 15 rfl rfl)
theorem dX2_wayTo_41 : decode cX2_wayTo 41 = .ok (.ifCond .eq 8, 3) := dk_153 0 8 (dk_at dksX2_wayTo_1 18 rfl rfl)
theorem dX2_wayTo_44 : decode cX2_wayTo 44 = .ok (.iload 4, 2) := dk_21 4 (dk_at dksX2_wayTo_1 21 rfl rfl)
theorem dX2_wayTo_46 : decode cX2_wayTo 46 = .ok (.goto 4, 3) := dk_167 0 4 (dk_at dksX2_wayTo_2 0 rfl rfl)
theorem dX2_wayTo_49 : decode cX2_wayTo 49 = .ok (.iconst (-1), 1) := dk_2 (dk_at dksX2_wayTo_2 3 rfl rfl)
theorem dX2_wayTo_50 : decode cX2_wayTo 50 = .ok (.ireturn, 1) := dk_172 (dk_at dksX2_wayTo_2 4 rfl rfl)
