set_option maxRecDepth 100000
abbrev cX1_init : ByteArray := prog_1_method_7_code
def yX1_init : MethodName := ⟨RX1, "<init>", "()V"⟩
def dkwX1_init_1 : List UInt8 := [188, 8, 181, 0, 68, 177]
abbrev dktX1_init_1 : List UInt8 := dkwX1_init_1 ++ []
def dkwX1_init_0 : List UInt8 := [42, 183, 0, 47, 42, 7, 184, 0, 54, 181, 0, 60, 42, 6, 189, 0, 55, 181, 0, 64, 42, 16, 120]
abbrev dktX1_init_0 : List UInt8 := dkwX1_init_0 ++ dktX1_init_1
theorem dksX1_init_0 : cX1_init.data.toList.drop 0 = dktX1_init_0 := by decide +kernel
theorem dksX1_init_1 : cX1_init.data.toList.drop 23 = dktX1_init_1 := dk_seg dksX1_init_0 23 rfl rfl
theorem dX1_init_0 : decode cX1_init 0 = .ok (.aload_n 0, 1) := dk_42 (dk_at dksX1_init_0 0 rfl rfl)
theorem dX1_init_1 : decode cX1_init 1 = .ok (.invokespecial 47, 3) := dk_183 0 47 (dk_at dksX1_init_0 1 rfl rfl)
theorem dX1_init_4 : decode cX1_init 4 = .ok (.aload_n 0, 1) := dk_42 (dk_at dksX1_init_0 4 rfl rfl)
theorem dX1_init_5 : decode cX1_init 5 = .ok (.iconst 4, 1) := dk_7 (dk_at dksX1_init_0 5 rfl rfl)
theorem dX1_init_6 : decode cX1_init 6 = .ok (.invokestatic 54, 3) := dk_184 0 54 (dk_at dksX1_init_0 6 rfl rfl)
theorem dX1_init_9 : decode cX1_init 9 = .ok (.putfield 60, 3) := dk_181 0 60 (dk_at dksX1_init_0 9 rfl rfl)
theorem dX1_init_12 : decode cX1_init 12 = .ok (.aload_n 0, 1) := dk_42 (dk_at dksX1_init_0 12 rfl rfl)
theorem dX1_init_13 : decode cX1_init 13 = .ok (.iconst 3, 1) := dk_6 (dk_at dksX1_init_0 13 rfl rfl)
theorem dX1_init_14 : decode cX1_init 14 = .ok (.anewarray 55, 3) := dk_189 0 55 (dk_at dksX1_init_0 14 rfl rfl)
theorem dX1_init_17 : decode cX1_init 17 = .ok (.putfield 64, 3) := dk_181 0 64 (dk_at dksX1_init_0 17 rfl rfl)
theorem dX1_init_20 : decode cX1_init 20 = .ok (.aload_n 0, 1) := dk_42 (dk_at dksX1_init_0 20 rfl rfl)
theorem dX1_init_21 : decode cX1_init 21 = .ok (.bipush 120, 2) := dk_16 120 (dk_at dksX1_init_0 21 rfl rfl)
theorem dX1_init_23 : decode cX1_init 23 = .ok (.newarray .byte, 2) := dk_188_8 (dk_at dksX1_init_1 0 rfl rfl)
theorem dX1_init_25 : decode cX1_init 25 = .ok (.putfield 68, 3) := dk_181 0 68 (dk_at dksX1_init_1 2 rfl rfl)
theorem dX1_init_28 : decode cX1_init 28 = .ok (.return_, 1) := dk_177 (dk_at dksX1_init_1 5 rfl rfl)
abbrev cX1_time : ByteArray := prog_1_method_20_code
def yX1_time : MethodName := ⟨RX1, "time", "()I"⟩
def dkwX1_time_0 : List UInt8 := [42, 180, 0, 60, 180, 0, 173, 172]
abbrev dktX1_time_0 : List UInt8 := dkwX1_time_0 ++ []
theorem dksX1_time_0 : cX1_time.data.toList.drop 0 = dktX1_time_0 := by decide +kernel
theorem dX1_time_0 : decode cX1_time 0 = .ok (.aload_n 0, 1) := dk_42 (dk_at dksX1_time_0 0 rfl rfl)
theorem dX1_time_1 : decode cX1_time 1 = .ok (.getfield 60, 3) := dk_180 0 60 (dk_at dksX1_time_0 1 rfl rfl)
theorem dX1_time_4 : decode cX1_time 4 = .ok (.getfield 173, 3) := dk_180 0 173 (dk_at dksX1_time_0 4 rfl rfl)
theorem dX1_time_7 : decode cX1_time 7 = .ok (.ireturn, 1) := dk_172 (dk_at dksX1_time_0 7 rfl rfl)
abbrev cX1_links : ByteArray := prog_1_method_23_code
def yX1_links : MethodName := ⟨RX1, "links", "()I"⟩
def dkwX1_links_0 : List UInt8 := [42, 180, 0, 60, 180, 0, 190, 182, 0, 108, 172]
abbrev dktX1_links_0 : List UInt8 := dkwX1_links_0 ++ []
theorem dksX1_links_0 : cX1_links.data.toList.drop 0 = dktX1_links_0 := by decide +kernel
theorem dX1_links_0 : decode cX1_links 0 = .ok (.aload_n 0, 1) := dk_42 (dk_at dksX1_links_0 0 rfl rfl)
theorem dX1_links_1 : decode cX1_links 1 = .ok (.getfield 60, 3) := dk_180 0 60 (dk_at dksX1_links_0 1 rfl rfl)
theorem dX1_links_4 : decode cX1_links 4 = .ok (.getfield 190, 3) := dk_180 0 190 (dk_at dksX1_links_0 4 rfl rfl)
theorem dX1_links_7 : decode cX1_links 7 = .ok (.invokevirtual 108, 3) := dk_182 0 108 (dk_at dksX1_links_0 7 rfl rfl)
theorem dX1_links_10 : decode cX1_links 10 = .ok (.ireturn, 1) := dk_172 (dk_at dksX1_links_0 10 rfl rfl)
abbrev cX1_isForest : ByteArray := prog_1_method_30_code
def yX1_isForest : MethodName := ⟨RX1, "isForest", "()Z"⟩
def dkwX1_isForest_0 : List UInt8 := [42, 180, 0, 60, 182, 0, 236, 172]
abbrev dktX1_isForest_0 : List UInt8 := dkwX1_isForest_0 ++ []
theorem dksX1_isForest_0 : cX1_isForest.data.toList.drop 0 = dktX1_isForest_0 := by decide +kernel
theorem dX1_isForest_0 : decode cX1_isForest 0 = .ok (.aload_n 0, 1) := dk_42 (dk_at dksX1_isForest_0 0 rfl rfl)
theorem dX1_isForest_1 : decode cX1_isForest 1 = .ok (.getfield 60, 3) := dk_180 0 60 (dk_at dksX1_isForest_0 1 rfl rfl)
theorem dX1_isForest_4 : decode cX1_isForest 4 = .ok (.invokevirtual 236, 3) := dk_182 0 236 (dk_at dksX1_isForest_0 4 rfl rfl)
theorem dX1_isForest_7 : decode cX1_isForest 7 = .ok (.ireturn, 1) := dk_172 (dk_at dksX1_isForest_0 7 rfl rfl)
abbrev cX1_clearScript : ByteArray := prog_1_method_32_code
def yX1_clearScript : MethodName := ⟨RX1, "clearScript", "()I"⟩
def dkwX1_clearScript_0 : List UInt8 := [42, 180, 0, 244, 60, 42, 3, 181, 0, 244, 27, 172]
abbrev dktX1_clearScript_0 : List UInt8 := dkwX1_clearScript_0 ++ []
theorem dksX1_clearScript_0 : cX1_clearScript.data.toList.drop 0 = dktX1_clearScript_0 := by decide +kernel
theorem dX1_clearScript_0 : decode cX1_clearScript 0 = .ok (.aload_n 0, 1) := dk_42 (dk_at dksX1_clearScript_0 0 rfl rfl)
theorem dX1_clearScript_1 : decode cX1_clearScript 1 = .ok (.getfield 244, 3) := dk_180 0 244 (dk_at dksX1_clearScript_0 1 rfl rfl)
theorem dX1_clearScript_4 : decode cX1_clearScript 4 = .ok (.istore_n 1, 1) := dk_60 (dk_at dksX1_clearScript_0 4 rfl rfl)
theorem dX1_clearScript_5 : decode cX1_clearScript 5 = .ok (.aload_n 0, 1) := dk_42 (dk_at dksX1_clearScript_0 5 rfl rfl)
theorem dX1_clearScript_6 : decode cX1_clearScript 6 = .ok (.iconst 0, 1) := dk_3 (dk_at dksX1_clearScript_0 6 rfl rfl)
theorem dX1_clearScript_7 : decode cX1_clearScript 7 = .ok (.putfield 244, 3) := dk_181 0 244 (dk_at dksX1_clearScript_0 7 rfl rfl)
theorem dX1_clearScript_10 : decode cX1_clearScript 10 = .ok (.iload_n 1, 1) := dk_27 (dk_at dksX1_clearScript_0 10 rfl rfl)
theorem dX1_clearScript_11 : decode cX1_clearScript 11 = .ok (.ireturn, 1) := dk_172 (dk_at dksX1_clearScript_0 11 rfl rfl)
abbrev cX1_run : ByteArray := prog_1_method_34_code
def yX1_run : MethodName := ⟨RX1, "run", "()I"⟩
def dkwX1_run_2 : List UInt8 := [45, 42, 45, 182, 1, 15, 182, 0, 113, 172]
abbrev dktX1_run_2 : List UInt8 := dkwX1_run_2 ++ []
def dkwX1_run_1 : List UInt8 := [180, 1, 12, 2, 159, 0, 11, 16, 246, 43, 180, 1, 12, 100, 172, 42, 180, 0, 60, 182, 0, 125, 78, 42]
abbrev dktX1_run_1 : List UInt8 := dkwX1_run_1 ++ dktX1_run_2
def dkwX1_run_0 : List UInt8 := [187, 0, 248, 89, 42, 183, 0, 250, 76, 4, 61, 28, 153, 0, 11, 43, 182, 0, 253, 61, 167, 255, 247, 43]
abbrev dktX1_run_0 : List UInt8 := dkwX1_run_0 ++ dktX1_run_1
theorem dksX1_run_0 : cX1_run.data.toList.drop 0 = dktX1_run_0 := by decide +kernel
theorem dksX1_run_1 : cX1_run.data.toList.drop 24 = dktX1_run_1 := dk_seg dksX1_run_0 24 rfl rfl
theorem dksX1_run_2 : cX1_run.data.toList.drop 48 = dktX1_run_2 := dk_seg dksX1_run_1 24 rfl rfl
theorem dX1_run_0 : decode cX1_run 0 = .ok (.new 248, 3) := dk_187 0 248 (dk_at dksX1_run_0 0 rfl rfl)
theorem dX1_run_3 : decode cX1_run 3 = .ok (.dup, 1) := dk_89 (dk_at dksX1_run_0 3 rfl rfl)
theorem dX1_run_4 : decode cX1_run 4 = .ok (.aload_n 0, 1) := dk_42 (dk_at dksX1_run_0 4 rfl rfl)
theorem dX1_run_5 : decode cX1_run 5 = .ok (.invokespecial 250, 3) := dk_183 0 250 (dk_at dksX1_run_0 5 rfl rfl)
theorem dX1_run_8 : decode cX1_run 8 = .ok (.astore_n 1, 1) := dk_76 (dk_at dksX1_run_0 8 rfl rfl)
theorem dX1_run_9 : decode cX1_run 9 = .ok (.iconst 1, 1) := dk_4 (dk_at dksX1_run_0 9 rfl rfl)
theorem dX1_run_10 : decode cX1_run 10 = .ok (.istore_n 2, 1) := dk_61 (dk_at dksX1_run_0 10 rfl rfl)
theorem dX1_run_11 : decode cX1_run 11 = .ok (.iload_n 2, 1) := dk_28 (dk_at dksX1_run_0 11 rfl rfl)
theorem dX1_run_12 : decode cX1_run 12 = .ok (.ifCond .eq 11, 3) := dk_153 0 11 (dk_at dksX1_run_0 12 rfl rfl)
theorem dX1_run_15 : decode cX1_run 15 = .ok (.aload_n 1, 1) := dk_43 (dk_at dksX1_run_0 15 rfl rfl)
theorem dX1_run_16 : decode cX1_run 16 = .ok (.invokevirtual 253, 3) := dk_182 0 253 (dk_at dksX1_run_0 16 rfl rfl)
theorem dX1_run_19 : decode cX1_run 19 = .ok (.istore_n 2, 1) := dk_61 (dk_at dksX1_run_0 19 rfl rfl)
theorem dX1_run_20 : decode cX1_run 20 = .ok (.goto (-9), 3) := dk_167 255 247 (dk_at dksX1_run_0 20 rfl rfl)
theorem dX1_run_23 : decode cX1_run 23 = .ok (.aload_n 1, 1) := dk_43 (dk_at dksX1_run_0 23 rfl rfl)
theorem dX1_run_24 : decode cX1_run 24 = .ok (.getfield 268, 3) := dk_180 1 12 (dk_at dksX1_run_1 0 rfl rfl)
theorem dX1_run_27 : decode cX1_run 27 = .ok (.iconst (-1), 1) := dk_2 (dk_at dksX1_run_1 3 rfl rfl)
theorem dX1_run_28 : decode cX1_run 28 = .ok (.if_icmp .eq 11, 3) := dk_159 0 11 (dk_at dksX1_run_1 4 rfl rfl)
theorem dX1_run_31 : decode cX1_run 31 = .ok (.bipush (-10), 2) := dk_16 246 (dk_at dksX1_run_1 7 rfl rfl)
theorem dX1_run_33 : decode cX1_run 33 = .ok (.aload_n 1, 1) := dk_43 (dk_at dksX1_run_1 9 rfl rfl)
theorem dX1_run_34 : decode cX1_run 34 = .ok (.getfield 268, 3) := dk_180 1 12 (dk_at dksX1_run_1 10 rfl rfl)
theorem dX1_run_37 : decode cX1_run 37 = .ok (.isub, 1) := dk_100 (dk_at dksX1_run_1 13 rfl rfl)
theorem dX1_run_38 : decode cX1_run 38 = .ok (.ireturn, 1) := dk_172 (dk_at dksX1_run_1 14 rfl rfl)
theorem dX1_run_39 : decode cX1_run 39 = .ok (.aload_n 0, 1) := dk_42 (dk_at dksX1_run_1 15 rfl rfl)
theorem dX1_run_40 : decode cX1_run 40 = .ok (.getfield 60, 3) := dk_180 0 60 (dk_at dksX1_run_1 16 rfl rfl)
theorem dX1_run_43 : decode cX1_run 43 = .ok (.invokevirtual 125, 3) := dk_182 0 125 (dk_at dksX1_run_1 19 rfl rfl)
theorem dX1_run_46 : decode cX1_run 46 = .ok (.astore_n 3, 1) := dk_78 (dk_at dksX1_run_1 22 rfl rfl)
theorem dX1_run_47 : decode cX1_run 47 = .ok (.aload_n 0, 1) := dk_42 (dk_at dksX1_run_1 23 rfl rfl)
theorem dX1_run_48 : decode cX1_run 48 = .ok (.aload_n 3, 1) := dk_45 (dk_at dksX1_run_2 0 rfl rfl)
theorem dX1_run_49 : decode cX1_run 49 = .ok (.aload_n 0, 1) := dk_42 (dk_at dksX1_run_2 1 rfl rfl)
theorem dX1_run_50 : decode cX1_run 50 = .ok (.aload_n 3, 1) := dk_45 (dk_at dksX1_run_2 2 rfl rfl)
theorem dX1_run_51 : decode cX1_run 51 = .ok (.invokevirtual 271, 3) := dk_182 1 15 (dk_at dksX1_run_2 3 rfl rfl)
theorem dX1_run_54 : decode cX1_run 54 = .ok (.invokevirtual 113, 3) := dk_182 0 113 (dk_at dksX1_run_2 6 rfl rfl)
theorem dX1_run_57 : decode cX1_run 57 = .ok (.ireturn, 1) := dk_172 (dk_at dksX1_run_2 9 rfl rfl)
abbrev cX1_inRange : ByteArray := prog_1_method_1_code
def yX1_inRange : MethodName := ⟨RX1, "inRange", "(JJJ)Z"⟩
def dkwX1_inRange_0 : List UInt8 := [30, 32, 148, 155, 0, 14, 30, 22, 4, 148, 157, 0, 7, 4, 167, 0, 4, 3, 172]
abbrev dktX1_inRange_0 : List UInt8 := dkwX1_inRange_0 ++ []
theorem dksX1_inRange_0 : cX1_inRange.data.toList.drop 0 = dktX1_inRange_0 := by decide +kernel
theorem dX1_inRange_0 : decode cX1_inRange 0 = .ok (.lload_n 0, 1) := dk_30 (dk_at dksX1_inRange_0 0 rfl rfl)
theorem dX1_inRange_1 : decode cX1_inRange 1 = .ok (.lload_n 2, 1) := dk_32 (dk_at dksX1_inRange_0 1 rfl rfl)
theorem dX1_inRange_2 : decode cX1_inRange 2 = .ok (.lcmp, 1) := dk_148 (dk_at dksX1_inRange_0 2 rfl rfl)
theorem dX1_inRange_3 : decode cX1_inRange 3 = .ok (.ifCond .lt 14, 3) := dk_155 0 14 (dk_at dksX1_inRange_0 3 rfl rfl)
theorem dX1_inRange_6 : decode cX1_inRange 6 = .ok (.lload_n 0, 1) := dk_30 (dk_at dksX1_inRange_0 6 rfl rfl)
theorem dX1_inRange_7 : decode cX1_inRange 7 = .ok (.lload 4, 2) := dk_22 4 (dk_at dksX1_inRange_0 7 rfl rfl)
theorem dX1_inRange_9 : decode cX1_inRange 9 = .ok (.lcmp, 1) := dk_148 (dk_at dksX1_inRange_0 9 rfl rfl)
theorem dX1_inRange_10 : decode cX1_inRange 10 = .ok (.ifCond .gt 7, 3) := dk_157 0 7 (dk_at dksX1_inRange_0 10 rfl rfl)
theorem dX1_inRange_13 : decode cX1_inRange 13 = .ok (.iconst 1, 1) := dk_4 (dk_at dksX1_inRange_0 13 rfl rfl)
theorem dX1_inRange_14 : decode cX1_inRange 14 = .ok (.goto 4, 3) := dk_167 0 4 (dk_at dksX1_inRange_0 14 rfl rfl)
theorem dX1_inRange_17 : decode cX1_inRange 17 = .ok (.iconst 0, 1) := dk_3 (dk_at dksX1_inRange_0 17 rfl rfl)
theorem dX1_inRange_18 : decode cX1_inRange 18 = .ok (.ireturn, 1) := dk_172 (dk_at dksX1_inRange_0 18 rfl rfl)
abbrev cX1_commandOf : ByteArray := prog_1_method_5_code
def yX1_commandOf : MethodName := ⟨RX1, "commandOf", "(Ljava/lang/String;)LBridgeAuction$Command;"⟩
def dkwX1_commandOf_9 : List UInt8 := [186, 0, 44, 0, 0, 176, 186, 0, 45, 0, 0, 176, 186, 0, 46, 0, 0, 176, 1, 176]
abbrev dktX1_commandOf_9 : List UInt8 := dkwX1_commandOf_9 ++ []
def dkwX1_commandOf_8 : List UInt8 := [186, 0, 37, 0, 0, 176, 186, 0, 41, 0, 0, 176, 186, 0, 42, 0, 0, 176, 186, 0, 43, 0, 0, 176]
abbrev dktX1_commandOf_8 : List UInt8 := dkwX1_commandOf_8 ++ dktX1_commandOf_9
def dkwX1_commandOf_7 : List UInt8 := [170, 0, 0, 0, 0, 0, 85, 0, 0, 0, 0, 0, 0, 0, 6, 0, 0, 0, 43, 0, 0, 0, 49, 0, 0, 0, 55, 0, 0, 0, 61, 0, 0, 0, 67, 0, 0, 0, 73, 0, 0, 0, 79]
abbrev dktX1_commandOf_7 : List UInt8 := dkwX1_commandOf_7 ++ dktX1_commandOf_8
def dkwX1_commandOf_6 : List UInt8 := [61, 28]
abbrev dktX1_commandOf_6 : List UInt8 := dkwX1_commandOf_6 ++ dktX1_commandOf_7
def dkwX1_commandOf_5 : List UInt8 := [18, 33, 182, 0, 21, 153, 0, 20, 8, 61, 167, 0, 15, 43, 18, 35, 182, 0, 21, 153, 0, 6, 16, 6]
abbrev dktX1_commandOf_5 : List UInt8 := dkwX1_commandOf_5 ++ dktX1_commandOf_6
def dkwX1_commandOf_4 : List UInt8 := [153, 0, 48, 6, 61, 167, 0, 43, 43, 18, 31, 182, 0, 21, 153, 0, 34, 7, 61, 167, 0, 29, 43]
abbrev dktX1_commandOf_4 : List UInt8 := dkwX1_commandOf_4 ++ dktX1_commandOf_5
def dkwX1_commandOf_3 : List UInt8 := [61, 167, 0, 71, 43, 18, 27, 182, 0, 21, 153, 0, 62, 5, 61, 167, 0, 57, 43, 18, 29, 182, 0, 21]
abbrev dktX1_commandOf_3 : List UInt8 := dkwX1_commandOf_3 ++ dktX1_commandOf_4
def dkwX1_commandOf_2 : List UInt8 := [43, 18, 19, 182, 0, 21, 153, 0, 90, 3, 61, 167, 0, 85, 43, 18, 25, 182, 0, 21, 153, 0, 76, 4]
abbrev dktX1_commandOf_2 : List UInt8 := dkwX1_commandOf_2 ++ dktX1_commandOf_3
def dkwX1_commandOf_1 : List UInt8 := [171, 0, 0, 0, 0, 0, 0, 164, 0, 0, 0, 7, 0, 1, 124, 253, 0, 0, 0, 82, 0, 1, 140, 21, 0, 0, 0, 110, 0, 47, 215, 30, 0, 0, 0, 96, 0, 48, 245, 168, 0, 0, 0, 138, 0, 50, 175, 250, 0, 0, 0, 68, 0, 52, 162, 168, 0, 0, 0, 124, 0, 54, 81, 157, 0, 0, 0, 152]
abbrev dktX1_commandOf_1 : List UInt8 := dkwX1_commandOf_1 ++ dktX1_commandOf_2
def dkwX1_commandOf_0 : List UInt8 := [42, 76, 2, 61, 43, 182, 0, 13]
abbrev dktX1_commandOf_0 : List UInt8 := dkwX1_commandOf_0 ++ dktX1_commandOf_1
theorem dksX1_commandOf_0 : cX1_commandOf.data.toList.drop 0 = dktX1_commandOf_0 := by decide +kernel
theorem dksX1_commandOf_1 : cX1_commandOf.data.toList.drop 8 = dktX1_commandOf_1 := dk_seg dksX1_commandOf_0 8 rfl rfl
theorem dksX1_commandOf_2 : cX1_commandOf.data.toList.drop 76 = dktX1_commandOf_2 := dk_seg dksX1_commandOf_1 68 rfl rfl
theorem dksX1_commandOf_3 : cX1_commandOf.data.toList.drop 100 = dktX1_commandOf_3 := dk_seg dksX1_commandOf_2 24 rfl rfl
theorem dksX1_commandOf_4 : cX1_commandOf.data.toList.drop 124 = dktX1_commandOf_4 := dk_seg dksX1_commandOf_3 24 rfl rfl
theorem dksX1_commandOf_5 : cX1_commandOf.data.toList.drop 147 = dktX1_commandOf_5 := dk_seg dksX1_commandOf_4 23 rfl rfl
theorem dksX1_commandOf_6 : cX1_commandOf.data.toList.drop 171 = dktX1_commandOf_6 := dk_seg dksX1_commandOf_5 24 rfl rfl
theorem dksX1_commandOf_7 : cX1_commandOf.data.toList.drop 173 = dktX1_commandOf_7 := dk_seg dksX1_commandOf_6 2 rfl rfl
theorem dksX1_commandOf_8 : cX1_commandOf.data.toList.drop 216 = dktX1_commandOf_8 := dk_seg dksX1_commandOf_7 43 rfl rfl
theorem dksX1_commandOf_9 : cX1_commandOf.data.toList.drop 240 = dktX1_commandOf_9 := dk_seg dksX1_commandOf_8 24 rfl rfl
theorem dX1_commandOf_0 : decode cX1_commandOf 0 = .ok (.aload_n 0, 1) := dk_42 (dk_at dksX1_commandOf_0 0 rfl rfl)
theorem dX1_commandOf_1 : decode cX1_commandOf 1 = .ok (.astore_n 1, 1) := dk_76 (dk_at dksX1_commandOf_0 1 rfl rfl)
theorem dX1_commandOf_2 : decode cX1_commandOf 2 = .ok (.iconst (-1), 1) := dk_2 (dk_at dksX1_commandOf_0 2 rfl rfl)
theorem dX1_commandOf_3 : decode cX1_commandOf 3 = .ok (.istore_n 2, 1) := dk_61 (dk_at dksX1_commandOf_0 3 rfl rfl)
theorem dX1_commandOf_4 : decode cX1_commandOf 4 = .ok (.aload_n 1, 1) := dk_43 (dk_at dksX1_commandOf_0 4 rfl rfl)
theorem dX1_commandOf_5 : decode cX1_commandOf 5 = .ok (.invokevirtual 13, 3) := dk_182 0 13 (dk_at dksX1_commandOf_0 5 rfl rfl)
theorem dX1_commandOf_8 : decode cX1_commandOf 8 = .ok (.lookupswitch 164 #[(97533, 82), (101397, 110), (3135262, 96), (3208616, 138), (3321850, 68), (3449512, 124), (3559837, 152)], 68) := by decide +kernel
theorem dX1_commandOf_76 : decode cX1_commandOf 76 = .ok (.aload_n 1, 1) := dk_43 (dk_at dksX1_commandOf_2 0 rfl rfl)
theorem dX1_commandOf_77 : decode cX1_commandOf 77 = .ok (.ldc 19, 2) := dk_18 19 (dk_at dksX1_commandOf_2 1 rfl rfl)
theorem dX1_commandOf_79 : decode cX1_commandOf 79 = .ok (.invokevirtual 21, 3) := dk_182 0 21 (dk_at dksX1_commandOf_2 3 rfl rfl)
theorem dX1_commandOf_82 : decode cX1_commandOf 82 = .ok (.ifCond .eq 90, 3) := dk_153 0 90 (dk_at dksX1_commandOf_2 6 rfl rfl)
theorem dX1_commandOf_85 : decode cX1_commandOf 85 = .ok (.iconst 0, 1) := dk_3 (dk_at dksX1_commandOf_2 9 rfl rfl)
theorem dX1_commandOf_86 : decode cX1_commandOf 86 = .ok (.istore_n 2, 1) := dk_61 (dk_at dksX1_commandOf_2 10 rfl rfl)
theorem dX1_commandOf_87 : decode cX1_commandOf 87 = .ok (.goto 85, 3) := dk_167 0 85 (dk_at dksX1_commandOf_2 11 rfl rfl)
theorem dX1_commandOf_90 : decode cX1_commandOf 90 = .ok (.aload_n 1, 1) := dk_43 (dk_at dksX1_commandOf_2 14 rfl rfl)
theorem dX1_commandOf_91 : decode cX1_commandOf 91 = .ok (.ldc 25, 2) := dk_18 25 (dk_at dksX1_commandOf_2 15 rfl rfl)
theorem dX1_commandOf_93 : decode cX1_commandOf 93 = .ok (.invokevirtual 21, 3) := dk_182 0 21 (dk_at dksX1_commandOf_2 17 rfl rfl)
theorem dX1_commandOf_96 : decode cX1_commandOf 96 = .ok (.ifCond .eq 76, 3) := dk_153 0 76 (dk_at dksX1_commandOf_2 20 rfl rfl)
theorem dX1_commandOf_99 : decode cX1_commandOf 99 = .ok (.iconst 1, 1) := dk_4 (dk_at dksX1_commandOf_2 23 rfl rfl)
theorem dX1_commandOf_100 : decode cX1_commandOf 100 = .ok (.istore_n 2, 1) := dk_61 (dk_at dksX1_commandOf_3 0 rfl rfl)
theorem dX1_commandOf_101 : decode cX1_commandOf 101 = .ok (.goto 71, 3) := dk_167 0 71 (dk_at dksX1_commandOf_3 1 rfl rfl)
theorem dX1_commandOf_104 : decode cX1_commandOf 104 = .ok (.aload_n 1, 1) := dk_43 (dk_at dksX1_commandOf_3 4 rfl rfl)
theorem dX1_commandOf_105 : decode cX1_commandOf 105 = .ok (.ldc 27, 2) := dk_18 27 (dk_at dksX1_commandOf_3 5 rfl rfl)
theorem dX1_commandOf_107 : decode cX1_commandOf 107 = .ok (.invokevirtual 21, 3) := dk_182 0 21 (dk_at dksX1_commandOf_3 7 rfl rfl)
theorem dX1_commandOf_110 : decode cX1_commandOf 110 = .ok (.ifCond .eq 62, 3) := dk_153 0 62 (dk_at dksX1_commandOf_3 10 rfl rfl)
theorem dX1_commandOf_113 : decode cX1_commandOf 113 = .ok (.iconst 2, 1) := dk_5 (dk_at dksX1_commandOf_3 13 rfl rfl)
theorem dX1_commandOf_114 : decode cX1_commandOf 114 = .ok (.istore_n 2, 1) := dk_61 (dk_at dksX1_commandOf_3 14 rfl rfl)
theorem dX1_commandOf_115 : decode cX1_commandOf 115 = .ok (.goto 57, 3) := dk_167 0 57 (dk_at dksX1_commandOf_3 15 rfl rfl)
theorem dX1_commandOf_118 : decode cX1_commandOf 118 = .ok (.aload_n 1, 1) := dk_43 (dk_at dksX1_commandOf_3 18 rfl rfl)
theorem dX1_commandOf_119 : decode cX1_commandOf 119 = .ok (.ldc 29, 2) := dk_18 29 (dk_at dksX1_commandOf_3 19 rfl rfl)
theorem dX1_commandOf_121 : decode cX1_commandOf 121 = .ok (.invokevirtual 21, 3) := dk_182 0 21 (dk_at dksX1_commandOf_3 21 rfl rfl)
theorem dX1_commandOf_124 : decode cX1_commandOf 124 = .ok (.ifCond .eq 48, 3) := dk_153 0 48 (dk_at dksX1_commandOf_4 0 rfl rfl)
theorem dX1_commandOf_127 : decode cX1_commandOf 127 = .ok (.iconst 3, 1) := dk_6 (dk_at dksX1_commandOf_4 3 rfl rfl)
theorem dX1_commandOf_128 : decode cX1_commandOf 128 = .ok (.istore_n 2, 1) := dk_61 (dk_at dksX1_commandOf_4 4 rfl rfl)
theorem dX1_commandOf_129 : decode cX1_commandOf 129 = .ok (.goto 43, 3) := dk_167 0 43 (dk_at dksX1_commandOf_4 5 rfl rfl)
theorem dX1_commandOf_132 : decode cX1_commandOf 132 = .ok (.aload_n 1, 1) := dk_43 (dk_at dksX1_commandOf_4 8 rfl rfl)
theorem dX1_commandOf_133 : decode cX1_commandOf 133 = .ok (.ldc 31, 2) := dk_18 31 (dk_at dksX1_commandOf_4 9 rfl rfl)
theorem dX1_commandOf_135 : decode cX1_commandOf 135 = .ok (.invokevirtual 21, 3) := dk_182 0 21 (dk_at dksX1_commandOf_4 11 rfl rfl)
theorem dX1_commandOf_138 : decode cX1_commandOf 138 = .ok (.ifCond .eq 34, 3) := dk_153 0 34 (dk_at dksX1_commandOf_4 14 rfl rfl)
theorem dX1_commandOf_141 : decode cX1_commandOf 141 = .ok (.iconst 4, 1) := dk_7 (dk_at dksX1_commandOf_4 17 rfl rfl)
theorem dX1_commandOf_142 : decode cX1_commandOf 142 = .ok (.istore_n 2, 1) := dk_61 (dk_at dksX1_commandOf_4 18 rfl rfl)
theorem dX1_commandOf_143 : decode cX1_commandOf 143 = .ok (.goto 29, 3) := dk_167 0 29 (dk_at dksX1_commandOf_4 19 rfl rfl)
theorem dX1_commandOf_146 : decode cX1_commandOf 146 = .ok (.aload_n 1, 1) := dk_43 (dk_at dksX1_commandOf_4 22 rfl rfl)
theorem dX1_commandOf_147 : decode cX1_commandOf 147 = .ok (.ldc 33, 2) := dk_18 33 (dk_at dksX1_commandOf_5 0 rfl rfl)
theorem dX1_commandOf_149 : decode cX1_commandOf 149 = .ok (.invokevirtual 21, 3) := dk_182 0 21 (dk_at dksX1_commandOf_5 2 rfl rfl)
theorem dX1_commandOf_152 : decode cX1_commandOf 152 = .ok (.ifCond .eq 20, 3) := dk_153 0 20 (dk_at dksX1_commandOf_5 5 rfl rfl)
theorem dX1_commandOf_155 : decode cX1_commandOf 155 = .ok (.iconst 5, 1) := dk_8 (dk_at dksX1_commandOf_5 8 rfl rfl)
theorem dX1_commandOf_156 : decode cX1_commandOf 156 = .ok (.istore_n 2, 1) := dk_61 (dk_at dksX1_commandOf_5 9 rfl rfl)
theorem dX1_commandOf_157 : decode cX1_commandOf 157 = .ok (.goto 15, 3) := dk_167 0 15 (dk_at dksX1_commandOf_5 10 rfl rfl)
theorem dX1_commandOf_160 : decode cX1_commandOf 160 = .ok (.aload_n 1, 1) := dk_43 (dk_at dksX1_commandOf_5 13 rfl rfl)
theorem dX1_commandOf_161 : decode cX1_commandOf 161 = .ok (.ldc 35, 2) := dk_18 35 (dk_at dksX1_commandOf_5 14 rfl rfl)
theorem dX1_commandOf_163 : decode cX1_commandOf 163 = .ok (.invokevirtual 21, 3) := dk_182 0 21 (dk_at dksX1_commandOf_5 16 rfl rfl)
theorem dX1_commandOf_166 : decode cX1_commandOf 166 = .ok (.ifCond .eq 6, 3) := dk_153 0 6 (dk_at dksX1_commandOf_5 19 rfl rfl)
theorem dX1_commandOf_169 : decode cX1_commandOf 169 = .ok (.bipush 6, 2) := dk_16 6 (dk_at dksX1_commandOf_5 22 rfl rfl)
theorem dX1_commandOf_171 : decode cX1_commandOf 171 = .ok (.istore_n 2, 1) := dk_61 (dk_at dksX1_commandOf_6 0 rfl rfl)
theorem dX1_commandOf_172 : decode cX1_commandOf 172 = .ok (.iload_n 2, 1) := dk_28 (dk_at dksX1_commandOf_6 1 rfl rfl)
theorem dX1_commandOf_173 : decode cX1_commandOf 173 = .ok (.tableswitch 85 0 6 #[43, 49, 55, 61, 67, 73, 79], 43) := by decide +kernel
theorem dX1_commandOf_216 : decode cX1_commandOf 216 = .ok (.invokedynamic 37, 5) := by decide +kernel
theorem dX1_commandOf_221 : decode cX1_commandOf 221 = .ok (.areturn, 1) := dk_176 (dk_at dksX1_commandOf_8 5 rfl rfl)
theorem dX1_commandOf_222 : decode cX1_commandOf 222 = .ok (.invokedynamic 41, 5) := by decide +kernel
theorem dX1_commandOf_227 : decode cX1_commandOf 227 = .ok (.areturn, 1) := dk_176 (dk_at dksX1_commandOf_8 11 rfl rfl)
theorem dX1_commandOf_228 : decode cX1_commandOf 228 = .ok (.invokedynamic 42, 5) := by decide +kernel
theorem dX1_commandOf_233 : decode cX1_commandOf 233 = .ok (.areturn, 1) := dk_176 (dk_at dksX1_commandOf_8 17 rfl rfl)
theorem dX1_commandOf_234 : decode cX1_commandOf 234 = .ok (.invokedynamic 43, 5) := by decide +kernel
theorem dX1_commandOf_239 : decode cX1_commandOf 239 = .ok (.areturn, 1) := dk_176 (dk_at dksX1_commandOf_8 23 rfl rfl)
theorem dX1_commandOf_240 : decode cX1_commandOf 240 = .ok (.invokedynamic 44, 5) := by decide +kernel
theorem dX1_commandOf_245 : decode cX1_commandOf 245 = .ok (.areturn, 1) := dk_176 (dk_at dksX1_commandOf_9 5 rfl rfl)
theorem dX1_commandOf_246 : decode cX1_commandOf 246 = .ok (.invokedynamic 45, 5) := by decide +kernel
theorem dX1_commandOf_251 : decode cX1_commandOf 251 = .ok (.areturn, 1) := dk_176 (dk_at dksX1_commandOf_9 11 rfl rfl)
theorem dX1_commandOf_252 : decode cX1_commandOf 252 = .ok (.invokedynamic 46, 5) := by decide +kernel
theorem dX1_commandOf_257 : decode cX1_commandOf 257 = .ok (.areturn, 1) := dk_176 (dk_at dksX1_commandOf_9 17 rfl rfl)
theorem dX1_commandOf_258 : decode cX1_commandOf 258 = .ok (.aconst_null, 1) := dk_1 (dk_at dksX1_commandOf_9 18 rfl rfl)
theorem dX1_commandOf_259 : decode cX1_commandOf 259 = .ok (.areturn, 1) := dk_176 (dk_at dksX1_commandOf_9 19 rfl rfl)
abbrev cX1_lambda_commandOf_0 : ByteArray := prog_1_method_45_code
def yX1_lambda_commandOf_0 : MethodName := ⟨RX1, "lambda$commandOf$0", "(LBridgeAuction$Network;III)I"⟩
def dkwX1_lambda_commandOf_0_0 : List UInt8 := [42, 27, 28, 29, 182, 0, 133, 172]
abbrev dktX1_lambda_commandOf_0_0 : List UInt8 := dkwX1_lambda_commandOf_0_0 ++ []
theorem dksX1_lambda_commandOf_0_0 : cX1_lambda_commandOf_0.data.toList.drop 0 = dktX1_lambda_commandOf_0_0 := by decide +kernel
theorem dX1_lambda_commandOf_0_0 : decode cX1_lambda_commandOf_0 0 = .ok (.aload_n 0, 1) := dk_42 (dk_at dksX1_lambda_commandOf_0_0 0 rfl rfl)
theorem dX1_lambda_commandOf_0_1 : decode cX1_lambda_commandOf_0 1 = .ok (.iload_n 1, 1) := dk_27 (dk_at dksX1_lambda_commandOf_0_0 1 rfl rfl)
theorem dX1_lambda_commandOf_0_2 : decode cX1_lambda_commandOf_0 2 = .ok (.iload_n 2, 1) := dk_28 (dk_at dksX1_lambda_commandOf_0_0 2 rfl rfl)
theorem dX1_lambda_commandOf_0_3 : decode cX1_lambda_commandOf_0 3 = .ok (.iload_n 3, 1) := dk_29 (dk_at dksX1_lambda_commandOf_0_0 3 rfl rfl)
theorem dX1_lambda_commandOf_0_4 : decode cX1_lambda_commandOf_0 4 = .ok (.invokevirtual 133, 3) := dk_182 0 133 (dk_at dksX1_lambda_commandOf_0_0 4 rfl rfl)
theorem dX1_lambda_commandOf_0_7 : decode cX1_lambda_commandOf_0 7 = .ok (.ireturn, 1) := dk_172 (dk_at dksX1_lambda_commandOf_0_0 7 rfl rfl)
abbrev cX1_requireIndex : ByteArray := prog_1_method_2_code
def yX1_requireIndex : MethodName := ⟨RX1, "requireIndex", "(ZLjava/lang/String;)V"⟩
def dkwX1_requireIndex_0 : List UInt8 := [26, 154, 0, 12, 187, 0, 1, 89, 43, 183, 0, 3, 191, 177]
abbrev dktX1_requireIndex_0 : List UInt8 := dkwX1_requireIndex_0 ++ []
theorem dksX1_requireIndex_0 : cX1_requireIndex.data.toList.drop 0 = dktX1_requireIndex_0 := by decide +kernel
theorem dX1_requireIndex_0 : decode cX1_requireIndex 0 = .ok (.iload_n 0, 1) := dk_26 (dk_at dksX1_requireIndex_0 0 rfl rfl)
theorem dX1_requireIndex_1 : decode cX1_requireIndex 1 = .ok (.ifCond .ne 12, 3) := dk_154 0 12 (dk_at dksX1_requireIndex_0 1 rfl rfl)
theorem dX1_requireIndex_4 : decode cX1_requireIndex 4 = .ok (.new 1, 3) := dk_187 0 1 (dk_at dksX1_requireIndex_0 4 rfl rfl)
theorem dX1_requireIndex_7 : decode cX1_requireIndex 7 = .ok (.dup, 1) := dk_89 (dk_at dksX1_requireIndex_0 7 rfl rfl)
theorem dX1_requireIndex_8 : decode cX1_requireIndex 8 = .ok (.aload_n 1, 1) := dk_43 (dk_at dksX1_requireIndex_0 8 rfl rfl)
theorem dX1_requireIndex_9 : decode cX1_requireIndex 9 = .ok (.invokespecial 3, 3) := dk_183 0 3 (dk_at dksX1_requireIndex_0 9 rfl rfl)
theorem dX1_requireIndex_12 : decode cX1_requireIndex 12 = .ok (.athrow, 1) := dk_191 (dk_at dksX1_requireIndex_0 12 rfl rfl)
theorem dX1_requireIndex_13 : decode cX1_requireIndex 13 = .ok (.return_, 1) := dk_177 (dk_at dksX1_requireIndex_0 13 rfl rfl)
abbrev cX1_requireArgument : ByteArray := prog_1_method_3_code
def yX1_requireArgument : MethodName := ⟨RX1, "requireArgument", "(ZLjava/lang/String;)V"⟩
def dkwX1_requireArgument_0 : List UInt8 := [26, 154, 0, 12, 187, 0, 7, 89, 43, 183, 0, 9, 191, 177]
abbrev dktX1_requireArgument_0 : List UInt8 := dkwX1_requireArgument_0 ++ []
theorem dksX1_requireArgument_0 : cX1_requireArgument.data.toList.drop 0 = dktX1_requireArgument_0 := by decide +kernel
theorem dX1_requireArgument_0 : decode cX1_requireArgument 0 = .ok (.iload_n 0, 1) := dk_26 (dk_at dksX1_requireArgument_0 0 rfl rfl)
theorem dX1_requireArgument_1 : decode cX1_requireArgument 1 = .ok (.ifCond .ne 12, 3) := dk_154 0 12 (dk_at dksX1_requireArgument_0 1 rfl rfl)
theorem dX1_requireArgument_4 : decode cX1_requireArgument 4 = .ok (.new 7, 3) := dk_187 0 7 (dk_at dksX1_requireArgument_0 4 rfl rfl)
theorem dX1_requireArgument_7 : decode cX1_requireArgument 7 = .ok (.dup, 1) := dk_89 (dk_at dksX1_requireArgument_0 7 rfl rfl)
theorem dX1_requireArgument_8 : decode cX1_requireArgument 8 = .ok (.aload_n 1, 1) := dk_43 (dk_at dksX1_requireArgument_0 8 rfl rfl)
theorem dX1_requireArgument_9 : decode cX1_requireArgument 9 = .ok (.invokespecial 9, 3) := dk_183 0 9 (dk_at dksX1_requireArgument_0 9 rfl rfl)
theorem dX1_requireArgument_12 : decode cX1_requireArgument 12 = .ok (.athrow, 1) := dk_191 (dk_at dksX1_requireArgument_0 12 rfl rfl)
theorem dX1_requireArgument_13 : decode cX1_requireArgument 13 = .ok (.return_, 1) := dk_177 (dk_at dksX1_requireArgument_0 13 rfl rfl)
abbrev cX1_requireState : ByteArray := prog_1_method_4_code
def yX1_requireState : MethodName := ⟨RX1, "requireState", "(ZLjava/lang/String;)V"⟩
def dkwX1_requireState_0 : List UInt8 := [26, 154, 0, 12, 187, 0, 10, 89, 43, 183, 0, 12, 191, 177]
abbrev dktX1_requireState_0 : List UInt8 := dkwX1_requireState_0 ++ []
theorem dksX1_requireState_0 : cX1_requireState.data.toList.drop 0 = dktX1_requireState_0 := by decide +kernel
theorem dX1_requireState_0 : decode cX1_requireState 0 = .ok (.iload_n 0, 1) := dk_26 (dk_at dksX1_requireState_0 0 rfl rfl)
theorem dX1_requireState_1 : decode cX1_requireState 1 = .ok (.ifCond .ne 12, 3) := dk_154 0 12 (dk_at dksX1_requireState_0 1 rfl rfl)
theorem dX1_requireState_4 : decode cX1_requireState 4 = .ok (.new 10, 3) := dk_187 0 10 (dk_at dksX1_requireState_0 4 rfl rfl)
theorem dX1_requireState_7 : decode cX1_requireState 7 = .ok (.dup, 1) := dk_89 (dk_at dksX1_requireState_0 7 rfl rfl)
theorem dX1_requireState_8 : decode cX1_requireState 8 = .ok (.aload_n 1, 1) := dk_43 (dk_at dksX1_requireState_0 8 rfl rfl)
theorem dX1_requireState_9 : decode cX1_requireState 9 = .ok (.invokespecial 12, 3) := dk_183 0 12 (dk_at dksX1_requireState_0 9 rfl rfl)
theorem dX1_requireState_12 : decode cX1_requireState 12 = .ok (.athrow, 1) := dk_191 (dk_at dksX1_requireState_0 12 rfl rfl)
theorem dX1_requireState_13 : decode cX1_requireState 13 = .ok (.return_, 1) := dk_177 (dk_at dksX1_requireState_0 13 rfl rfl)
abbrev cX1_lambda_commandOf_1 : ByteArray := prog_1_method_44_code
def yX1_lambda_commandOf_1 : MethodName := ⟨RX1, "lambda$commandOf$1", "(LBridgeAuction$Network;III)I"⟩
def dkwX1_lambda_commandOf_1_0 : List UInt8 := [42, 27, 28, 29, 182, 0, 145, 172]
abbrev dktX1_lambda_commandOf_1_0 : List UInt8 := dkwX1_lambda_commandOf_1_0 ++ []
theorem dksX1_lambda_commandOf_1_0 : cX1_lambda_commandOf_1.data.toList.drop 0 = dktX1_lambda_commandOf_1_0 := by decide +kernel
theorem dX1_lambda_commandOf_1_0 : decode cX1_lambda_commandOf_1 0 = .ok (.aload_n 0, 1) := dk_42 (dk_at dksX1_lambda_commandOf_1_0 0 rfl rfl)
theorem dX1_lambda_commandOf_1_1 : decode cX1_lambda_commandOf_1 1 = .ok (.iload_n 1, 1) := dk_27 (dk_at dksX1_lambda_commandOf_1_0 1 rfl rfl)
theorem dX1_lambda_commandOf_1_2 : decode cX1_lambda_commandOf_1 2 = .ok (.iload_n 2, 1) := dk_28 (dk_at dksX1_lambda_commandOf_1_0 2 rfl rfl)
theorem dX1_lambda_commandOf_1_3 : decode cX1_lambda_commandOf_1 3 = .ok (.iload_n 3, 1) := dk_29 (dk_at dksX1_lambda_commandOf_1_0 3 rfl rfl)
theorem dX1_lambda_commandOf_1_4 : decode cX1_lambda_commandOf_1 4 = .ok (.invokevirtual 145, 3) := dk_182 0 145 (dk_at dksX1_lambda_commandOf_1_0 4 rfl rfl)
theorem dX1_lambda_commandOf_1_7 : decode cX1_lambda_commandOf_1 7 = .ok (.ireturn, 1) := dk_172 (dk_at dksX1_lambda_commandOf_1_0 7 rfl rfl)
abbrev cX1_lambda_commandOf_2 : ByteArray := prog_1_method_43_code
def yX1_lambda_commandOf_2 : MethodName := ⟨RX1, "lambda$commandOf$2", "(LBridgeAuction$Network;III)I"⟩
def dkwX1_lambda_commandOf_2_0 : List UInt8 := [42, 27, 182, 0, 137, 172]
abbrev dktX1_lambda_commandOf_2_0 : List UInt8 := dkwX1_lambda_commandOf_2_0 ++ []
theorem dksX1_lambda_commandOf_2_0 : cX1_lambda_commandOf_2.data.toList.drop 0 = dktX1_lambda_commandOf_2_0 := by decide +kernel
theorem dX1_lambda_commandOf_2_0 : decode cX1_lambda_commandOf_2 0 = .ok (.aload_n 0, 1) := dk_42 (dk_at dksX1_lambda_commandOf_2_0 0 rfl rfl)
theorem dX1_lambda_commandOf_2_1 : decode cX1_lambda_commandOf_2 1 = .ok (.iload_n 1, 1) := dk_27 (dk_at dksX1_lambda_commandOf_2_0 1 rfl rfl)
theorem dX1_lambda_commandOf_2_2 : decode cX1_lambda_commandOf_2 2 = .ok (.invokevirtual 137, 3) := dk_182 0 137 (dk_at dksX1_lambda_commandOf_2_0 2 rfl rfl)
theorem dX1_lambda_commandOf_2_5 : decode cX1_lambda_commandOf_2 5 = .ok (.ireturn, 1) := dk_172 (dk_at dksX1_lambda_commandOf_2_0 5 rfl rfl)
abbrev cX1_lambda_commandOf_3 : ByteArray := prog_1_method_42_code
def yX1_lambda_commandOf_3 : MethodName := ⟨RX1, "lambda$commandOf$3", "(LBridgeAuction$Network;III)I"⟩
def dkwX1_lambda_commandOf_3_0 : List UInt8 := [42, 27, 182, 0, 140, 172]
abbrev dktX1_lambda_commandOf_3_0 : List UInt8 := dkwX1_lambda_commandOf_3_0 ++ []
theorem dksX1_lambda_commandOf_3_0 : cX1_lambda_commandOf_3.data.toList.drop 0 = dktX1_lambda_commandOf_3_0 := by decide +kernel
theorem dX1_lambda_commandOf_3_0 : decode cX1_lambda_commandOf_3 0 = .ok (.aload_n 0, 1) := dk_42 (dk_at dksX1_lambda_commandOf_3_0 0 rfl rfl)
theorem dX1_lambda_commandOf_3_1 : decode cX1_lambda_commandOf_3 1 = .ok (.iload_n 1, 1) := dk_27 (dk_at dksX1_lambda_commandOf_3_0 1 rfl rfl)
theorem dX1_lambda_commandOf_3_2 : decode cX1_lambda_commandOf_3 2 = .ok (.invokevirtual 140, 3) := dk_182 0 140 (dk_at dksX1_lambda_commandOf_3_0 2 rfl rfl)
theorem dX1_lambda_commandOf_3_5 : decode cX1_lambda_commandOf_3 5 = .ok (.ireturn, 1) := dk_172 (dk_at dksX1_lambda_commandOf_3_0 5 rfl rfl)
abbrev cX1_lambda_commandOf_4 : ByteArray := prog_1_method_41_code
def yX1_lambda_commandOf_4 : MethodName := ⟨RX1, "lambda$commandOf$4", "(LBridgeAuction$Network;III)I"⟩
def dkwX1_lambda_commandOf_4_0 : List UInt8 := [42, 27, 28, 182, 0, 129, 172]
abbrev dktX1_lambda_commandOf_4_0 : List UInt8 := dkwX1_lambda_commandOf_4_0 ++ []
theorem dksX1_lambda_commandOf_4_0 : cX1_lambda_commandOf_4.data.toList.drop 0 = dktX1_lambda_commandOf_4_0 := by decide +kernel
theorem dX1_lambda_commandOf_4_0 : decode cX1_lambda_commandOf_4 0 = .ok (.aload_n 0, 1) := dk_42 (dk_at dksX1_lambda_commandOf_4_0 0 rfl rfl)
theorem dX1_lambda_commandOf_4_1 : decode cX1_lambda_commandOf_4 1 = .ok (.iload_n 1, 1) := dk_27 (dk_at dksX1_lambda_commandOf_4_0 1 rfl rfl)
theorem dX1_lambda_commandOf_4_2 : decode cX1_lambda_commandOf_4 2 = .ok (.iload_n 2, 1) := dk_28 (dk_at dksX1_lambda_commandOf_4_0 2 rfl rfl)
theorem dX1_lambda_commandOf_4_3 : decode cX1_lambda_commandOf_4 3 = .ok (.invokevirtual 129, 3) := dk_182 0 129 (dk_at dksX1_lambda_commandOf_4_0 3 rfl rfl)
theorem dX1_lambda_commandOf_4_6 : decode cX1_lambda_commandOf_4 6 = .ok (.ireturn, 1) := dk_172 (dk_at dksX1_lambda_commandOf_4_0 6 rfl rfl)
abbrev cX1_lambda_commandOf_5 : ByteArray := prog_1_method_40_code
def yX1_lambda_commandOf_5 : MethodName := ⟨RX1, "lambda$commandOf$5", "(LBridgeAuction$Network;III)I"⟩
def dkwX1_lambda_commandOf_5_0 : List UInt8 := [42, 27, 28, 182, 0, 142, 172]
abbrev dktX1_lambda_commandOf_5_0 : List UInt8 := dkwX1_lambda_commandOf_5_0 ++ []
theorem dksX1_lambda_commandOf_5_0 : cX1_lambda_commandOf_5.data.toList.drop 0 = dktX1_lambda_commandOf_5_0 := by decide +kernel
theorem dX1_lambda_commandOf_5_0 : decode cX1_lambda_commandOf_5 0 = .ok (.aload_n 0, 1) := dk_42 (dk_at dksX1_lambda_commandOf_5_0 0 rfl rfl)
theorem dX1_lambda_commandOf_5_1 : decode cX1_lambda_commandOf_5 1 = .ok (.iload_n 1, 1) := dk_27 (dk_at dksX1_lambda_commandOf_5_0 1 rfl rfl)
theorem dX1_lambda_commandOf_5_2 : decode cX1_lambda_commandOf_5 2 = .ok (.iload_n 2, 1) := dk_28 (dk_at dksX1_lambda_commandOf_5_0 2 rfl rfl)
theorem dX1_lambda_commandOf_5_3 : decode cX1_lambda_commandOf_5 3 = .ok (.invokevirtual 142, 3) := dk_182 0 142 (dk_at dksX1_lambda_commandOf_5_0 3 rfl rfl)
theorem dX1_lambda_commandOf_5_6 : decode cX1_lambda_commandOf_5 6 = .ok (.ireturn, 1) := dk_172 (dk_at dksX1_lambda_commandOf_5_0 6 rfl rfl)
abbrev cX1_lambda_commandOf_6 : ByteArray := prog_1_method_39_code
def yX1_lambda_commandOf_6 : MethodName := ⟨RX1, "lambda$commandOf$6", "(LBridgeAuction$Network;III)I"⟩
def dkwX1_lambda_commandOf_6_0 : List UInt8 := [42, 27, 182, 0, 171, 172]
abbrev dktX1_lambda_commandOf_6_0 : List UInt8 := dkwX1_lambda_commandOf_6_0 ++ []
theorem dksX1_lambda_commandOf_6_0 : cX1_lambda_commandOf_6.data.toList.drop 0 = dktX1_lambda_commandOf_6_0 := by decide +kernel
theorem dX1_lambda_commandOf_6_0 : decode cX1_lambda_commandOf_6 0 = .ok (.aload_n 0, 1) := dk_42 (dk_at dksX1_lambda_commandOf_6_0 0 rfl rfl)
theorem dX1_lambda_commandOf_6_1 : decode cX1_lambda_commandOf_6 1 = .ok (.iload_n 1, 1) := dk_27 (dk_at dksX1_lambda_commandOf_6_0 1 rfl rfl)
theorem dX1_lambda_commandOf_6_2 : decode cX1_lambda_commandOf_6 2 = .ok (.invokevirtual 171, 3) := dk_182 0 171 (dk_at dksX1_lambda_commandOf_6_0 2 rfl rfl)
theorem dX1_lambda_commandOf_6_5 : decode cX1_lambda_commandOf_6 5 = .ok (.ireturn, 1) := dk_172 (dk_at dksX1_lambda_commandOf_6_0 5 rfl rfl)
abbrev cX1_numbersOf : ByteArray := prog_1_method_6_code
def yX1_numbersOf : MethodName := ⟨RX1, "numbersOf", "(Ljava/lang/String;)I"⟩
def dkwX1_numbersOf_6 : List UInt8 := [6, 172, 5, 172, 4, 172]
abbrev dktX1_numbersOf_6 : List UInt8 := dkwX1_numbersOf_6 ++ []
def dkwX1_numbersOf_5 : List UInt8 := [170, 0, 0, 0, 0, 34, 0, 0, 0, 0, 0, 0, 0, 3, 0, 0, 0, 30, 0, 0, 0, 30, 0, 0, 0, 32, 0, 0, 0, 32]
abbrev dktX1_numbersOf_5 : List UInt8 := dkwX1_numbersOf_5 ++ dktX1_numbersOf_6
def dkwX1_numbersOf_4 : List UInt8 := [153, 0, 5, 6, 61, 28]
abbrev dktX1_numbersOf_4 : List UInt8 := dkwX1_numbersOf_4 ++ dktX1_numbersOf_5
def dkwX1_numbersOf_3 : List UInt8 := [61, 167, 0, 28, 43, 18, 31, 182, 0, 21, 153, 0, 19, 5, 61, 167, 0, 14, 43, 18, 33, 182, 0, 21]
abbrev dktX1_numbersOf_3 : List UInt8 := dkwX1_numbersOf_3 ++ dktX1_numbersOf_4
def dkwX1_numbersOf_2 : List UInt8 := [43, 18, 19, 182, 0, 21, 153, 0, 47, 3, 61, 167, 0, 42, 43, 18, 25, 182, 0, 21, 153, 0, 33, 4]
abbrev dktX1_numbersOf_2 : List UInt8 := dkwX1_numbersOf_2 ++ dktX1_numbersOf_3
def dkwX1_numbersOf_1 : List UInt8 := [171, 0, 0, 0, 0, 0, 0, 97, 0, 0, 0, 4, 0, 1, 124, 253, 0, 0, 0, 58, 0, 48, 245, 168, 0, 0, 0, 86, 0, 50, 175, 250, 0, 0, 0, 44, 0, 52, 162, 168, 0, 0, 0, 72]
abbrev dktX1_numbersOf_1 : List UInt8 := dkwX1_numbersOf_1 ++ dktX1_numbersOf_2
def dkwX1_numbersOf_0 : List UInt8 := [42, 76, 2, 61, 43, 182, 0, 13]
abbrev dktX1_numbersOf_0 : List UInt8 := dkwX1_numbersOf_0 ++ dktX1_numbersOf_1
theorem dksX1_numbersOf_0 : cX1_numbersOf.data.toList.drop 0 = dktX1_numbersOf_0 := by decide +kernel
theorem dksX1_numbersOf_1 : cX1_numbersOf.data.toList.drop 8 = dktX1_numbersOf_1 := dk_seg dksX1_numbersOf_0 8 rfl rfl
theorem dksX1_numbersOf_2 : cX1_numbersOf.data.toList.drop 52 = dktX1_numbersOf_2 := dk_seg dksX1_numbersOf_1 44 rfl rfl
theorem dksX1_numbersOf_3 : cX1_numbersOf.data.toList.drop 76 = dktX1_numbersOf_3 := dk_seg dksX1_numbersOf_2 24 rfl rfl
theorem dksX1_numbersOf_4 : cX1_numbersOf.data.toList.drop 100 = dktX1_numbersOf_4 := dk_seg dksX1_numbersOf_3 24 rfl rfl
theorem dksX1_numbersOf_5 : cX1_numbersOf.data.toList.drop 106 = dktX1_numbersOf_5 := dk_seg dksX1_numbersOf_4 6 rfl rfl
theorem dksX1_numbersOf_6 : cX1_numbersOf.data.toList.drop 136 = dktX1_numbersOf_6 := dk_seg dksX1_numbersOf_5 30 rfl rfl
theorem dX1_numbersOf_0 : decode cX1_numbersOf 0 = .ok (.aload_n 0, 1) := dk_42 (dk_at dksX1_numbersOf_0 0 rfl rfl)
theorem dX1_numbersOf_1 : decode cX1_numbersOf 1 = .ok (.astore_n 1, 1) := dk_76 (dk_at dksX1_numbersOf_0 1 rfl rfl)
theorem dX1_numbersOf_2 : decode cX1_numbersOf 2 = .ok (.iconst (-1), 1) := dk_2 (dk_at dksX1_numbersOf_0 2 rfl rfl)
theorem dX1_numbersOf_3 : decode cX1_numbersOf 3 = .ok (.istore_n 2, 1) := dk_61 (dk_at dksX1_numbersOf_0 3 rfl rfl)
theorem dX1_numbersOf_4 : decode cX1_numbersOf 4 = .ok (.aload_n 1, 1) := dk_43 (dk_at dksX1_numbersOf_0 4 rfl rfl)
theorem dX1_numbersOf_5 : decode cX1_numbersOf 5 = .ok (.invokevirtual 13, 3) := dk_182 0 13 (dk_at dksX1_numbersOf_0 5 rfl rfl)
theorem dX1_numbersOf_8 : decode cX1_numbersOf 8 = .ok (.lookupswitch 97 #[(97533, 58), (3208616, 86), (3321850, 44), (3449512, 72)], 44) := by decide +kernel
theorem dX1_numbersOf_52 : decode cX1_numbersOf 52 = .ok (.aload_n 1, 1) := dk_43 (dk_at dksX1_numbersOf_2 0 rfl rfl)
theorem dX1_numbersOf_53 : decode cX1_numbersOf 53 = .ok (.ldc 19, 2) := dk_18 19 (dk_at dksX1_numbersOf_2 1 rfl rfl)
theorem dX1_numbersOf_55 : decode cX1_numbersOf 55 = .ok (.invokevirtual 21, 3) := dk_182 0 21 (dk_at dksX1_numbersOf_2 3 rfl rfl)
theorem dX1_numbersOf_58 : decode cX1_numbersOf 58 = .ok (.ifCond .eq 47, 3) := dk_153 0 47 (dk_at dksX1_numbersOf_2 6 rfl rfl)
theorem dX1_numbersOf_61 : decode cX1_numbersOf 61 = .ok (.iconst 0, 1) := dk_3 (dk_at dksX1_numbersOf_2 9 rfl rfl)
theorem dX1_numbersOf_62 : decode cX1_numbersOf 62 = .ok (.istore_n 2, 1) := dk_61 (dk_at dksX1_numbersOf_2 10 rfl rfl)
theorem dX1_numbersOf_63 : decode cX1_numbersOf 63 = .ok (.goto 42, 3) := dk_167 0 42 (dk_at dksX1_numbersOf_2 11 rfl rfl)
theorem dX1_numbersOf_66 : decode cX1_numbersOf 66 = .ok (.aload_n 1, 1) := dk_43 (dk_at dksX1_numbersOf_2 14 rfl rfl)
theorem dX1_numbersOf_67 : decode cX1_numbersOf 67 = .ok (.ldc 25, 2) := dk_18 25 (dk_at dksX1_numbersOf_2 15 rfl rfl)
theorem dX1_numbersOf_69 : decode cX1_numbersOf 69 = .ok (.invokevirtual 21, 3) := dk_182 0 21 (dk_at dksX1_numbersOf_2 17 rfl rfl)
theorem dX1_numbersOf_72 : decode cX1_numbersOf 72 = .ok (.ifCond .eq 33, 3) := dk_153 0 33 (dk_at dksX1_numbersOf_2 20 rfl rfl)
theorem dX1_numbersOf_75 : decode cX1_numbersOf 75 = .ok (.iconst 1, 1) := dk_4 (dk_at dksX1_numbersOf_2 23 rfl rfl)
theorem dX1_numbersOf_76 : decode cX1_numbersOf 76 = .ok (.istore_n 2, 1) := dk_61 (dk_at dksX1_numbersOf_3 0 rfl rfl)
theorem dX1_numbersOf_77 : decode cX1_numbersOf 77 = .ok (.goto 28, 3) := dk_167 0 28 (dk_at dksX1_numbersOf_3 1 rfl rfl)
theorem dX1_numbersOf_80 : decode cX1_numbersOf 80 = .ok (.aload_n 1, 1) := dk_43 (dk_at dksX1_numbersOf_3 4 rfl rfl)
theorem dX1_numbersOf_81 : decode cX1_numbersOf 81 = .ok (.ldc 31, 2) := dk_18 31 (dk_at dksX1_numbersOf_3 5 rfl rfl)
theorem dX1_numbersOf_83 : decode cX1_numbersOf 83 = .ok (.invokevirtual 21, 3) := dk_182 0 21 (dk_at dksX1_numbersOf_3 7 rfl rfl)
theorem dX1_numbersOf_86 : decode cX1_numbersOf 86 = .ok (.ifCond .eq 19, 3) := dk_153 0 19 (dk_at dksX1_numbersOf_3 10 rfl rfl)
theorem dX1_numbersOf_89 : decode cX1_numbersOf 89 = .ok (.iconst 2, 1) := dk_5 (dk_at dksX1_numbersOf_3 13 rfl rfl)
theorem dX1_numbersOf_90 : decode cX1_numbersOf 90 = .ok (.istore_n 2, 1) := dk_61 (dk_at dksX1_numbersOf_3 14 rfl rfl)
theorem dX1_numbersOf_91 : decode cX1_numbersOf 91 = .ok (.goto 14, 3) := dk_167 0 14 (dk_at dksX1_numbersOf_3 15 rfl rfl)
theorem dX1_numbersOf_94 : decode cX1_numbersOf 94 = .ok (.aload_n 1, 1) := dk_43 (dk_at dksX1_numbersOf_3 18 rfl rfl)
theorem dX1_numbersOf_95 : decode cX1_numbersOf 95 = .ok (.ldc 33, 2) := dk_18 33 (dk_at dksX1_numbersOf_3 19 rfl rfl)
theorem dX1_numbersOf_97 : decode cX1_numbersOf 97 = .ok (.invokevirtual 21, 3) := dk_182 0 21 (dk_at dksX1_numbersOf_3 21 rfl rfl)
theorem dX1_numbersOf_100 : decode cX1_numbersOf 100 = .ok (.ifCond .eq 5, 3) := dk_153 0 5 (dk_at dksX1_numbersOf_4 0 rfl rfl)
theorem dX1_numbersOf_103 : decode cX1_numbersOf 103 = .ok (.iconst 3, 1) := dk_6 (dk_at dksX1_numbersOf_4 3 rfl rfl)
theorem dX1_numbersOf_104 : decode cX1_numbersOf 104 = .ok (.istore_n 2, 1) := dk_61 (dk_at dksX1_numbersOf_4 4 rfl rfl)
theorem dX1_numbersOf_105 : decode cX1_numbersOf 105 = .ok (.iload_n 2, 1) := dk_28 (dk_at dksX1_numbersOf_4 5 rfl rfl)
theorem dX1_numbersOf_106 : decode cX1_numbersOf 106 = .ok (.tableswitch 34 0 3 #[30, 30, 32, 32], 30) := by decide +kernel
theorem dX1_numbersOf_136 : decode cX1_numbersOf 136 = .ok (.iconst 3, 1) := dk_6 (dk_at dksX1_numbersOf_6 0 rfl rfl)
theorem dX1_numbersOf_137 : decode cX1_numbersOf 137 = .ok (.ireturn, 1) := dk_172 (dk_at dksX1_numbersOf_6 1 rfl rfl)
theorem dX1_numbersOf_138 : decode cX1_numbersOf 138 = .ok (.iconst 2, 1) := dk_5 (dk_at dksX1_numbersOf_6 2 rfl rfl)
theorem dX1_numbersOf_139 : decode cX1_numbersOf 139 = .ok (.ireturn, 1) := dk_172 (dk_at dksX1_numbersOf_6 3 rfl rfl)
theorem dX1_numbersOf_140 : decode cX1_numbersOf 140 = .ok (.iconst 1, 1) := dk_4 (dk_at dksX1_numbersOf_6 4 rfl rfl)
theorem dX1_numbersOf_141 : decode cX1_numbersOf 141 = .ok (.ireturn, 1) := dk_172 (dk_at dksX1_numbersOf_6 5 rfl rfl)
abbrev cX1_carryOut : ByteArray := prog_1_method_33_code
def yX1_carryOut : MethodName := ⟨RX1, "carryOut", "(LBridgeAuction$Network;)I"⟩
def dkwX1_carryOut_2 : List UInt8 := [132, 3, 1, 167, 255, 216, 167, 0, 7, 58, 4, 29, 172, 29, 172]
abbrev dktX1_carryOut_2 : List UInt8 := dkwX1_carryOut_2 ++ []
def dkwX1_carryOut_1 : List UInt8 := [180, 1, 4, 3, 46, 44, 180, 1, 4, 4, 46, 44, 180, 1, 4, 5, 46, 185, 1, 7, 5, 0, 54, 4]
abbrev dktX1_carryOut_1 : List UInt8 := dkwX1_carryOut_1 ++ dktX1_carryOut_2
def dkwX1_carryOut_0 : List UInt8 := [187, 0, 248, 89, 42, 183, 0, 250, 77, 3, 62, 44, 182, 0, 253, 153, 0, 39, 44, 180, 1, 0, 43, 44]
abbrev dktX1_carryOut_0 : List UInt8 := dkwX1_carryOut_0 ++ dktX1_carryOut_1
theorem dksX1_carryOut_0 : cX1_carryOut.data.toList.drop 0 = dktX1_carryOut_0 := by decide +kernel
theorem dksX1_carryOut_1 : cX1_carryOut.data.toList.drop 24 = dktX1_carryOut_1 := dk_seg dksX1_carryOut_0 24 rfl rfl
theorem dksX1_carryOut_2 : cX1_carryOut.data.toList.drop 48 = dktX1_carryOut_2 := dk_seg dksX1_carryOut_1 24 rfl rfl
theorem dX1_carryOut_0 : decode cX1_carryOut 0 = .ok (.new 248, 3) := dk_187 0 248 (dk_at dksX1_carryOut_0 0 rfl rfl)
theorem dX1_carryOut_3 : decode cX1_carryOut 3 = .ok (.dup, 1) := dk_89 (dk_at dksX1_carryOut_0 3 rfl rfl)
theorem dX1_carryOut_4 : decode cX1_carryOut 4 = .ok (.aload_n 0, 1) := dk_42 (dk_at dksX1_carryOut_0 4 rfl rfl)
theorem dX1_carryOut_5 : decode cX1_carryOut 5 = .ok (.invokespecial 250, 3) := dk_183 0 250 (dk_at dksX1_carryOut_0 5 rfl rfl)
theorem dX1_carryOut_8 : decode cX1_carryOut 8 = .ok (.astore_n 2, 1) := dk_77 (dk_at dksX1_carryOut_0 8 rfl rfl)
theorem dX1_carryOut_9 : decode cX1_carryOut 9 = .ok (.iconst 0, 1) := dk_3 (dk_at dksX1_carryOut_0 9 rfl rfl)
theorem dX1_carryOut_10 : decode cX1_carryOut 10 = .ok (.istore_n 3, 1) := dk_62 (dk_at dksX1_carryOut_0 10 rfl rfl)
theorem dX1_carryOut_11 : decode cX1_carryOut 11 = .ok (.aload_n 2, 1) := dk_44 (dk_at dksX1_carryOut_0 11 rfl rfl)
theorem dX1_carryOut_12 : decode cX1_carryOut 12 = .ok (.invokevirtual 253, 3) := dk_182 0 253 (dk_at dksX1_carryOut_0 12 rfl rfl)
theorem dX1_carryOut_15 : decode cX1_carryOut 15 = .ok (.ifCond .eq 39, 3) := dk_153 0 39 (dk_at dksX1_carryOut_0 15 rfl rfl)
theorem dX1_carryOut_18 : decode cX1_carryOut 18 = .ok (.aload_n 2, 1) := dk_44 (dk_at dksX1_carryOut_0 18 rfl rfl)
theorem dX1_carryOut_19 : decode cX1_carryOut 19 = .ok (.getfield 256, 3) := dk_180 1 0 (dk_at dksX1_carryOut_0 19 rfl rfl)
theorem dX1_carryOut_22 : decode cX1_carryOut 22 = .ok (.aload_n 1, 1) := dk_43 (dk_at dksX1_carryOut_0 22 rfl rfl)
theorem dX1_carryOut_23 : decode cX1_carryOut 23 = .ok (.aload_n 2, 1) := dk_44 (dk_at dksX1_carryOut_0 23 rfl rfl)
theorem dX1_carryOut_24 : decode cX1_carryOut 24 = .ok (.getfield 260, 3) := dk_180 1 4 (dk_at dksX1_carryOut_1 0 rfl rfl)
theorem dX1_carryOut_27 : decode cX1_carryOut 27 = .ok (.iconst 0, 1) := dk_3 (dk_at dksX1_carryOut_1 3 rfl rfl)
theorem dX1_carryOut_28 : decode cX1_carryOut 28 = .ok (.iaload, 1) := dk_46 (dk_at dksX1_carryOut_1 4 rfl rfl)
theorem dX1_carryOut_29 : decode cX1_carryOut 29 = .ok (.aload_n 2, 1) := dk_44 (dk_at dksX1_carryOut_1 5 rfl rfl)
theorem dX1_carryOut_30 : decode cX1_carryOut 30 = .ok (.getfield 260, 3) := dk_180 1 4 (dk_at dksX1_carryOut_1 6 rfl rfl)
theorem dX1_carryOut_33 : decode cX1_carryOut 33 = .ok (.iconst 1, 1) := dk_4 (dk_at dksX1_carryOut_1 9 rfl rfl)
theorem dX1_carryOut_34 : decode cX1_carryOut 34 = .ok (.iaload, 1) := dk_46 (dk_at dksX1_carryOut_1 10 rfl rfl)
theorem dX1_carryOut_35 : decode cX1_carryOut 35 = .ok (.aload_n 2, 1) := dk_44 (dk_at dksX1_carryOut_1 11 rfl rfl)
theorem dX1_carryOut_36 : decode cX1_carryOut 36 = .ok (.getfield 260, 3) := dk_180 1 4 (dk_at dksX1_carryOut_1 12 rfl rfl)
theorem dX1_carryOut_39 : decode cX1_carryOut 39 = .ok (.iconst 2, 1) := dk_5 (dk_at dksX1_carryOut_1 15 rfl rfl)
theorem dX1_carryOut_40 : decode cX1_carryOut 40 = .ok (.iaload, 1) := dk_46 (dk_at dksX1_carryOut_1 16 rfl rfl)
theorem dX1_carryOut_41 : decode cX1_carryOut 41 = .ok (.invokeinterface 263 5, 5) := by decide +kernel
theorem dX1_carryOut_46 : decode cX1_carryOut 46 = .ok (.istore 4, 2) := dk_54 4 (dk_at dksX1_carryOut_1 22 rfl rfl)
theorem dX1_carryOut_48 : decode cX1_carryOut 48 = .ok (.iinc 3 1, 3) := dk_132 3 1 (dk_at dksX1_carryOut_2 0 rfl rfl)
theorem dX1_carryOut_51 : decode cX1_carryOut 51 = .ok (.goto (-40), 3) := dk_167 255 216 (dk_at dksX1_carryOut_2 3 rfl rfl)
theorem dX1_carryOut_54 : decode cX1_carryOut 54 = .ok (.goto 7, 3) := dk_167 0 7 (dk_at dksX1_carryOut_2 6 rfl rfl)
theorem dX1_carryOut_57 : decode cX1_carryOut 57 = .ok (.astore 4, 2) := dk_58 4 (dk_at dksX1_carryOut_2 9 rfl rfl)
theorem dX1_carryOut_59 : decode cX1_carryOut 59 = .ok (.iload_n 3, 1) := dk_29 (dk_at dksX1_carryOut_2 11 rfl rfl)
theorem dX1_carryOut_60 : decode cX1_carryOut 60 = .ok (.ireturn, 1) := dk_172 (dk_at dksX1_carryOut_2 12 rfl rfl)
theorem dX1_carryOut_61 : decode cX1_carryOut 61 = .ok (.iload_n 3, 1) := dk_29 (dk_at dksX1_carryOut_2 13 rfl rfl)
theorem dX1_carryOut_62 : decode cX1_carryOut 62 = .ok (.ireturn, 1) := dk_172 (dk_at dksX1_carryOut_2 14 rfl rfl)
abbrev cX1_become : ByteArray := prog_1_method_8_code
def yX1_become : MethodName := ⟨RX1, "become", "(LBridgeAuction$Network;I)I"⟩
def dkwX1_become_2 : List UInt8 := [180, 0, 72, 4, 96, 181, 0, 72, 42, 43, 181, 0, 60, 28, 172]
abbrev dktX1_become_2 : List UInt8 := dkwX1_become_2 ++ []
def dkwX1_become_1 : List UInt8 := [180, 0, 72, 4, 100, 181, 0, 72, 42, 180, 0, 64, 42, 180, 0, 72, 42, 180, 0, 60, 83, 42, 89]
abbrev dktX1_become_1 : List UInt8 := dkwX1_become_1 ++ dktX1_become_2
def dkwX1_become_0 : List UInt8 := [42, 180, 0, 72, 6, 160, 0, 27, 42, 180, 0, 64, 4, 42, 180, 0, 64, 3, 5, 184, 0, 76, 42, 89]
abbrev dktX1_become_0 : List UInt8 := dkwX1_become_0 ++ dktX1_become_1
theorem dksX1_become_0 : cX1_become.data.toList.drop 0 = dktX1_become_0 := by decide +kernel
theorem dksX1_become_1 : cX1_become.data.toList.drop 24 = dktX1_become_1 := dk_seg dksX1_become_0 24 rfl rfl
theorem dksX1_become_2 : cX1_become.data.toList.drop 47 = dktX1_become_2 := dk_seg dksX1_become_1 23 rfl rfl
theorem dX1_become_0 : decode cX1_become 0 = .ok (.aload_n 0, 1) := dk_42 (dk_at dksX1_become_0 0 rfl rfl)
theorem dX1_become_1 : decode cX1_become 1 = .ok (.getfield 72, 3) := dk_180 0 72 (dk_at dksX1_become_0 1 rfl rfl)
theorem dX1_become_4 : decode cX1_become 4 = .ok (.iconst 3, 1) := dk_6 (dk_at dksX1_become_0 4 rfl rfl)
theorem dX1_become_5 : decode cX1_become 5 = .ok (.if_icmp .ne 27, 3) := dk_160 0 27 (dk_at dksX1_become_0 5 rfl rfl)
theorem dX1_become_8 : decode cX1_become 8 = .ok (.aload_n 0, 1) := dk_42 (dk_at dksX1_become_0 8 rfl rfl)
theorem dX1_become_9 : decode cX1_become 9 = .ok (.getfield 64, 3) := dk_180 0 64 (dk_at dksX1_become_0 9 rfl rfl)
theorem dX1_become_12 : decode cX1_become 12 = .ok (.iconst 1, 1) := dk_4 (dk_at dksX1_become_0 12 rfl rfl)
theorem dX1_become_13 : decode cX1_become 13 = .ok (.aload_n 0, 1) := dk_42 (dk_at dksX1_become_0 13 rfl rfl)
theorem dX1_become_14 : decode cX1_become 14 = .ok (.getfield 64, 3) := dk_180 0 64 (dk_at dksX1_become_0 14 rfl rfl)
theorem dX1_become_17 : decode cX1_become 17 = .ok (.iconst 0, 1) := dk_3 (dk_at dksX1_become_0 17 rfl rfl)
theorem dX1_become_18 : decode cX1_become 18 = .ok (.iconst 2, 1) := dk_5 (dk_at dksX1_become_0 18 rfl rfl)
theorem dX1_become_19 : decode cX1_become 19 = .ok (.invokestatic 76, 3) := dk_184 0 76 (dk_at dksX1_become_0 19 rfl rfl)
theorem dX1_become_22 : decode cX1_become 22 = .ok (.aload_n 0, 1) := dk_42 (dk_at dksX1_become_0 22 rfl rfl)
theorem dX1_become_23 : decode cX1_become 23 = .ok (.dup, 1) := dk_89 (dk_at dksX1_become_0 23 rfl rfl)
theorem dX1_become_24 : decode cX1_become 24 = .ok (.getfield 72, 3) := dk_180 0 72 (dk_at dksX1_become_1 0 rfl rfl)
theorem dX1_become_27 : decode cX1_become 27 = .ok (.iconst 1, 1) := dk_4 (dk_at dksX1_become_1 3 rfl rfl)
theorem dX1_become_28 : decode cX1_become 28 = .ok (.isub, 1) := dk_100 (dk_at dksX1_become_1 4 rfl rfl)
theorem dX1_become_29 : decode cX1_become 29 = .ok (.putfield 72, 3) := dk_181 0 72 (dk_at dksX1_become_1 5 rfl rfl)
theorem dX1_become_32 : decode cX1_become 32 = .ok (.aload_n 0, 1) := dk_42 (dk_at dksX1_become_1 8 rfl rfl)
theorem dX1_become_33 : decode cX1_become 33 = .ok (.getfield 64, 3) := dk_180 0 64 (dk_at dksX1_become_1 9 rfl rfl)
theorem dX1_become_36 : decode cX1_become 36 = .ok (.aload_n 0, 1) := dk_42 (dk_at dksX1_become_1 12 rfl rfl)
theorem dX1_become_37 : decode cX1_become 37 = .ok (.getfield 72, 3) := dk_180 0 72 (dk_at dksX1_become_1 13 rfl rfl)
theorem dX1_become_40 : decode cX1_become 40 = .ok (.aload_n 0, 1) := dk_42 (dk_at dksX1_become_1 16 rfl rfl)
theorem dX1_become_41 : decode cX1_become 41 = .ok (.getfield 60, 3) := dk_180 0 60 (dk_at dksX1_become_1 17 rfl rfl)
theorem dX1_become_44 : decode cX1_become 44 = .ok (.aastore, 1) := dk_83 (dk_at dksX1_become_1 20 rfl rfl)
theorem dX1_become_45 : decode cX1_become 45 = .ok (.aload_n 0, 1) := dk_42 (dk_at dksX1_become_1 21 rfl rfl)
theorem dX1_become_46 : decode cX1_become 46 = .ok (.dup, 1) := dk_89 (dk_at dksX1_become_1 22 rfl rfl)
theorem dX1_become_47 : decode cX1_become 47 = .ok (.getfield 72, 3) := dk_180 0 72 (dk_at dksX1_become_2 0 rfl rfl)
theorem dX1_become_50 : decode cX1_become 50 = .ok (.iconst 1, 1) := dk_4 (dk_at dksX1_become_2 3 rfl rfl)
theorem dX1_become_51 : decode cX1_become 51 = .ok (.iadd, 1) := dk_96 (dk_at dksX1_become_2 4 rfl rfl)
theorem dX1_become_52 : decode cX1_become 52 = .ok (.putfield 72, 3) := dk_181 0 72 (dk_at dksX1_become_2 5 rfl rfl)
theorem dX1_become_55 : decode cX1_become 55 = .ok (.aload_n 0, 1) := dk_42 (dk_at dksX1_become_2 8 rfl rfl)
theorem dX1_become_56 : decode cX1_become 56 = .ok (.aload_n 1, 1) := dk_43 (dk_at dksX1_become_2 9 rfl rfl)
theorem dX1_become_57 : decode cX1_become 57 = .ok (.putfield 60, 3) := dk_181 0 60 (dk_at dksX1_become_2 10 rfl rfl)
theorem dX1_become_60 : decode cX1_become 60 = .ok (.iload_n 2, 1) := dk_28 (dk_at dksX1_become_2 13 rfl rfl)
theorem dX1_become_61 : decode cX1_become 61 = .ok (.ireturn, 1) := dk_172 (dk_at dksX1_become_2 14 rfl rfl)
abbrev cX1_digest : ByteArray := prog_1_method_38_code
def yX1_digest : MethodName := ⟨RX1, "digest", "()J"⟩
def dkwX1_digest_14 : List UInt8 := [167, 255, 232, 20, 1, 21, 32, 105, 43, 182, 0, 236, 153, 0, 7, 4, 167, 0, 4, 3, 133, 97, 173]
abbrev dktX1_digest_14 : List UInt8 := dkwX1_digest_14 ++ []
def dkwX1_digest_13 : List UInt8 := [21, 4, 16, 7, 162, 0, 23, 20, 1, 21, 32, 105, 43, 21, 4, 182, 0, 233, 133, 97, 65, 132, 4, 1]
abbrev dktX1_digest_13 : List UInt8 := dkwX1_digest_13 ++ dktX1_digest_14
def dkwX1_digest_12 : List UInt8 := [89, 6, 43, 21, 4, 6, 182, 0, 220, 79, 184, 1, 23, 65, 132, 4, 1, 167, 255, 199, 3, 54, 4]
abbrev dktX1_digest_12 : List UInt8 := dkwX1_digest_12 ++ dktX1_digest_13
def dkwX1_digest_11 : List UInt8 := [182, 0, 220, 79, 89, 4, 43, 21, 4, 4, 182, 0, 220, 79, 89, 5, 43, 21, 4, 5, 182, 0, 220, 79]
abbrev dktX1_digest_11 : List UInt8 := dkwX1_digest_11 ++ dktX1_digest_12
def dkwX1_digest_10 : List UInt8 := [167, 255, 224, 3, 54, 4, 21, 4, 7, 162, 0, 57, 32, 7, 188, 10, 89, 3, 43, 21, 4, 3]
abbrev dktX1_digest_10 : List UInt8 := dkwX1_digest_10 ++ dktX1_digest_11
def dkwX1_digest_9 : List UInt8 := [162, 0, 26, 32, 43, 180, 0, 190, 21, 4, 182, 1, 29, 192, 0, 197, 184, 1, 36, 65, 132, 4, 1]
abbrev dktX1_digest_9 : List UInt8 := dkwX1_digest_9 ++ dktX1_digest_10
def dkwX1_digest_8 : List UInt8 := [180, 0, 190, 182, 0, 108, 79, 184, 1, 23, 65, 3, 54, 4, 21, 4, 43, 180, 0, 190, 182, 0, 108]
abbrev dktX1_digest_8 : List UInt8 := dkwX1_digest_8 ++ dktX1_digest_9
def dkwX1_digest_7 : List UInt8 := [167, 255, 227, 132, 4, 1, 167, 255, 161, 32, 43, 180, 1, 33, 184, 1, 23, 4, 188, 10, 89, 3, 43]
abbrev dktX1_digest_7 : List UInt8 := dkwX1_digest_7 ++ dktX1_digest_8
def dkwX1_digest_6 : List UInt8 := [20, 1, 21, 32, 105, 25, 5, 21, 6, 43, 180, 0, 173, 182, 0, 217, 133, 97, 65, 132, 6, 1]
abbrev dktX1_digest_6 : List UInt8 := dkwX1_digest_6 ++ dktX1_digest_7
def dkwX1_digest_5 : List UInt8 := [182, 0, 185, 133, 97, 65, 132, 6, 1, 167, 255, 231, 3, 54, 6, 21, 6, 16, 8, 162, 0, 28]
abbrev dktX1_digest_5 : List UInt8 := dkwX1_digest_5 ++ dktX1_digest_6
def dkwX1_digest_4 : List UInt8 := [192, 0, 186, 58, 5, 3, 54, 6, 21, 6, 16, 6, 162, 0, 24, 20, 1, 21, 32, 105, 25, 5, 21, 6]
abbrev dktX1_digest_4 : List UInt8 := dkwX1_digest_4 ++ dktX1_digest_5
def dkwX1_digest_3 : List UInt8 := [54, 4, 21, 4, 43, 180, 0, 105, 182, 0, 108, 162, 0, 89, 43, 180, 0, 105, 21, 4, 182, 1, 29]
abbrev dktX1_digest_3 : List UInt8 := dkwX1_digest_3 ++ dktX1_digest_4
def dkwX1_digest_2 : List UInt8 := [180, 0, 96, 79, 89, 8, 43, 180, 0, 99, 79, 89, 16, 6, 43, 180, 0, 102, 79, 184, 1, 23, 65, 3]
abbrev dktX1_digest_2 : List UInt8 := dkwX1_digest_2 ++ dktX1_digest_3
def dkwX1_digest_1 : List UInt8 := [180, 0, 244, 79, 89, 5, 43, 180, 0, 105, 182, 0, 108, 79, 89, 6, 43, 180, 0, 173, 79, 89, 7, 43]
abbrev dktX1_digest_1 : List UInt8 := dkwX1_digest_1 ++ dktX1_digest_2
def dkwX1_digest_0 : List UInt8 := [42, 180, 0, 60, 76, 20, 1, 27, 16, 7, 188, 10, 89, 3, 42, 180, 0, 72, 79, 89, 4, 42]
abbrev dktX1_digest_0 : List UInt8 := dkwX1_digest_0 ++ dktX1_digest_1
theorem dksX1_digest_0 : cX1_digest.data.toList.drop 0 = dktX1_digest_0 := by decide +kernel
theorem dksX1_digest_1 : cX1_digest.data.toList.drop 22 = dktX1_digest_1 := dk_seg dksX1_digest_0 22 rfl rfl
theorem dksX1_digest_2 : cX1_digest.data.toList.drop 46 = dktX1_digest_2 := dk_seg dksX1_digest_1 24 rfl rfl
theorem dksX1_digest_3 : cX1_digest.data.toList.drop 70 = dktX1_digest_3 := dk_seg dksX1_digest_2 24 rfl rfl
theorem dksX1_digest_4 : cX1_digest.data.toList.drop 93 = dktX1_digest_4 := dk_seg dksX1_digest_3 23 rfl rfl
theorem dksX1_digest_5 : cX1_digest.data.toList.drop 117 = dktX1_digest_5 := dk_seg dksX1_digest_4 24 rfl rfl
theorem dksX1_digest_6 : cX1_digest.data.toList.drop 139 = dktX1_digest_6 := dk_seg dksX1_digest_5 22 rfl rfl
theorem dksX1_digest_7 : cX1_digest.data.toList.drop 161 = dktX1_digest_7 := dk_seg dksX1_digest_6 22 rfl rfl
theorem dksX1_digest_8 : cX1_digest.data.toList.drop 184 = dktX1_digest_8 := dk_seg dksX1_digest_7 23 rfl rfl
theorem dksX1_digest_9 : cX1_digest.data.toList.drop 207 = dktX1_digest_9 := dk_seg dksX1_digest_8 23 rfl rfl
theorem dksX1_digest_10 : cX1_digest.data.toList.drop 230 = dktX1_digest_10 := dk_seg dksX1_digest_9 23 rfl rfl
theorem dksX1_digest_11 : cX1_digest.data.toList.drop 252 = dktX1_digest_11 := dk_seg dksX1_digest_10 22 rfl rfl
theorem dksX1_digest_12 : cX1_digest.data.toList.drop 276 = dktX1_digest_12 := dk_seg dksX1_digest_11 24 rfl rfl
theorem dksX1_digest_13 : cX1_digest.data.toList.drop 299 = dktX1_digest_13 := dk_seg dksX1_digest_12 23 rfl rfl
theorem dksX1_digest_14 : cX1_digest.data.toList.drop 323 = dktX1_digest_14 := dk_seg dksX1_digest_13 24 rfl rfl
theorem dX1_digest_0 : decode cX1_digest 0 = .ok (.aload_n 0, 1) := dk_42 (dk_at dksX1_digest_0 0 rfl rfl)
theorem dX1_digest_1 : decode cX1_digest 1 = .ok (.getfield 60, 3) := dk_180 0 60 (dk_at dksX1_digest_0 1 rfl rfl)
theorem dX1_digest_4 : decode cX1_digest 4 = .ok (.astore_n 1, 1) := dk_76 (dk_at dksX1_digest_0 4 rfl rfl)
theorem dX1_digest_5 : decode cX1_digest 5 = .ok (.ldc2_w 283, 3) := dk_20 1 27 (dk_at dksX1_digest_0 5 rfl rfl)
theorem dX1_digest_8 : decode cX1_digest 8 = .ok (.bipush 7, 2) := dk_16 7 (dk_at dksX1_digest_0 8 rfl rfl)
theorem dX1_digest_10 : decode cX1_digest 10 = .ok (.newarray .int, 2) := dk_188_10 (dk_at dksX1_digest_0 10 rfl rfl)
theorem dX1_digest_12 : decode cX1_digest 12 = .ok (.dup, 1) := dk_89 (dk_at dksX1_digest_0 12 rfl rfl)
theorem dX1_digest_13 : decode cX1_digest 13 = .ok (.iconst 0, 1) := dk_3 (dk_at dksX1_digest_0 13 rfl rfl)
theorem dX1_digest_14 : decode cX1_digest 14 = .ok (.aload_n 0, 1) := dk_42 (dk_at dksX1_digest_0 14 rfl rfl)
theorem dX1_digest_15 : decode cX1_digest 15 = .ok (.getfield 72, 3) := dk_180 0 72 (dk_at dksX1_digest_0 15 rfl rfl)
theorem dX1_digest_18 : decode cX1_digest 18 = .ok (.iastore, 1) := dk_79 (dk_at dksX1_digest_0 18 rfl rfl)
theorem dX1_digest_19 : decode cX1_digest 19 = .ok (.dup, 1) := dk_89 (dk_at dksX1_digest_0 19 rfl rfl)
theorem dX1_digest_20 : decode cX1_digest 20 = .ok (.iconst 1, 1) := dk_4 (dk_at dksX1_digest_0 20 rfl rfl)
theorem dX1_digest_21 : decode cX1_digest 21 = .ok (.aload_n 0, 1) := dk_42 (dk_at dksX1_digest_0 21 rfl rfl)
theorem dX1_digest_22 : decode cX1_digest 22 = .ok (.getfield 244, 3) := dk_180 0 244 (dk_at dksX1_digest_1 0 rfl rfl)
theorem dX1_digest_25 : decode cX1_digest 25 = .ok (.iastore, 1) := dk_79 (dk_at dksX1_digest_1 3 rfl rfl)
theorem dX1_digest_26 : decode cX1_digest 26 = .ok (.dup, 1) := dk_89 (dk_at dksX1_digest_1 4 rfl rfl)
theorem dX1_digest_27 : decode cX1_digest 27 = .ok (.iconst 2, 1) := dk_5 (dk_at dksX1_digest_1 5 rfl rfl)
theorem dX1_digest_28 : decode cX1_digest 28 = .ok (.aload_n 1, 1) := dk_43 (dk_at dksX1_digest_1 6 rfl rfl)
theorem dX1_digest_29 : decode cX1_digest 29 = .ok (.getfield 105, 3) := dk_180 0 105 (dk_at dksX1_digest_1 7 rfl rfl)
theorem dX1_digest_32 : decode cX1_digest 32 = .ok (.invokevirtual 108, 3) := dk_182 0 108 (dk_at dksX1_digest_1 10 rfl rfl)
theorem dX1_digest_35 : decode cX1_digest 35 = .ok (.iastore, 1) := dk_79 (dk_at dksX1_digest_1 13 rfl rfl)
theorem dX1_digest_36 : decode cX1_digest 36 = .ok (.dup, 1) := dk_89 (dk_at dksX1_digest_1 14 rfl rfl)
theorem dX1_digest_37 : decode cX1_digest 37 = .ok (.iconst 3, 1) := dk_6 (dk_at dksX1_digest_1 15 rfl rfl)
theorem dX1_digest_38 : decode cX1_digest 38 = .ok (.aload_n 1, 1) := dk_43 (dk_at dksX1_digest_1 16 rfl rfl)
theorem dX1_digest_39 : decode cX1_digest 39 = .ok (.getfield 173, 3) := dk_180 0 173 (dk_at dksX1_digest_1 17 rfl rfl)
theorem dX1_digest_42 : decode cX1_digest 42 = .ok (.iastore, 1) := dk_79 (dk_at dksX1_digest_1 20 rfl rfl)
theorem dX1_digest_43 : decode cX1_digest 43 = .ok (.dup, 1) := dk_89 (dk_at dksX1_digest_1 21 rfl rfl)
theorem dX1_digest_44 : decode cX1_digest 44 = .ok (.iconst 4, 1) := dk_7 (dk_at dksX1_digest_1 22 rfl rfl)
theorem dX1_digest_45 : decode cX1_digest 45 = .ok (.aload_n 1, 1) := dk_43 (dk_at dksX1_digest_1 23 rfl rfl)
theorem dX1_digest_46 : decode cX1_digest 46 = .ok (.getfield 96, 3) := dk_180 0 96 (dk_at dksX1_digest_2 0 rfl rfl)
theorem dX1_digest_49 : decode cX1_digest 49 = .ok (.iastore, 1) := dk_79 (dk_at dksX1_digest_2 3 rfl rfl)
theorem dX1_digest_50 : decode cX1_digest 50 = .ok (.dup, 1) := dk_89 (dk_at dksX1_digest_2 4 rfl rfl)
theorem dX1_digest_51 : decode cX1_digest 51 = .ok (.iconst 5, 1) := dk_8 (dk_at dksX1_digest_2 5 rfl rfl)
theorem dX1_digest_52 : decode cX1_digest 52 = .ok (.aload_n 1, 1) := dk_43 (dk_at dksX1_digest_2 6 rfl rfl)
theorem dX1_digest_53 : decode cX1_digest 53 = .ok (.getfield 99, 3) := dk_180 0 99 (dk_at dksX1_digest_2 7 rfl rfl)
theorem dX1_digest_56 : decode cX1_digest 56 = .ok (.iastore, 1) := dk_79 (dk_at dksX1_digest_2 10 rfl rfl)
theorem dX1_digest_57 : decode cX1_digest 57 = .ok (.dup, 1) := dk_89 (dk_at dksX1_digest_2 11 rfl rfl)
theorem dX1_digest_58 : decode cX1_digest 58 = .ok (.bipush 6, 2) := dk_16 6 (dk_at dksX1_digest_2 12 rfl rfl)
theorem dX1_digest_60 : decode cX1_digest 60 = .ok (.aload_n 1, 1) := dk_43 (dk_at dksX1_digest_2 14 rfl rfl)
theorem dX1_digest_61 : decode cX1_digest 61 = .ok (.getfield 102, 3) := dk_180 0 102 (dk_at dksX1_digest_2 15 rfl rfl)
theorem dX1_digest_64 : decode cX1_digest 64 = .ok (.iastore, 1) := dk_79 (dk_at dksX1_digest_2 18 rfl rfl)
theorem dX1_digest_65 : decode cX1_digest 65 = .ok (.invokestatic 279, 3) := dk_184 1 23 (dk_at dksX1_digest_2 19 rfl rfl)
theorem dX1_digest_68 : decode cX1_digest 68 = .ok (.lstore_n 2, 1) := dk_65 (dk_at dksX1_digest_2 22 rfl rfl)
theorem dX1_digest_69 : decode cX1_digest 69 = .ok (.iconst 0, 1) := dk_3 (dk_at dksX1_digest_2 23 rfl rfl)
theorem dX1_digest_70 : decode cX1_digest 70 = .ok (.istore 4, 2) := dk_54 4 (dk_at dksX1_digest_3 0 rfl rfl)
theorem dX1_digest_72 : decode cX1_digest 72 = .ok (.iload 4, 2) := dk_21 4 (dk_at dksX1_digest_3 2 rfl rfl)
theorem dX1_digest_74 : decode cX1_digest 74 = .ok (.aload_n 1, 1) := dk_43 (dk_at dksX1_digest_3 4 rfl rfl)
theorem dX1_digest_75 : decode cX1_digest 75 = .ok (.getfield 105, 3) := dk_180 0 105 (dk_at dksX1_digest_3 5 rfl rfl)
theorem dX1_digest_78 : decode cX1_digest 78 = .ok (.invokevirtual 108, 3) := dk_182 0 108 (dk_at dksX1_digest_3 8 rfl rfl)
theorem dX1_digest_81 : decode cX1_digest 81 = .ok (.if_icmp .ge 89, 3) := dk_162 0 89 (dk_at dksX1_digest_3 11 rfl rfl)
theorem dX1_digest_84 : decode cX1_digest 84 = .ok (.aload_n 1, 1) := dk_43 (dk_at dksX1_digest_3 14 rfl rfl)
theorem dX1_digest_85 : decode cX1_digest 85 = .ok (.getfield 105, 3) := dk_180 0 105 (dk_at dksX1_digest_3 15 rfl rfl)
theorem dX1_digest_88 : decode cX1_digest 88 = .ok (.iload 4, 2) := dk_21 4 (dk_at dksX1_digest_3 18 rfl rfl)
theorem dX1_digest_90 : decode cX1_digest 90 = .ok (.invokevirtual 285, 3) := dk_182 1 29 (dk_at dksX1_digest_3 20 rfl rfl)
theorem dX1_digest_93 : decode cX1_digest 93 = .ok (.checkcast 186, 3) := dk_192 0 186 (dk_at dksX1_digest_4 0 rfl rfl)
theorem dX1_digest_96 : decode cX1_digest 96 = .ok (.astore 5, 2) := dk_58 5 (dk_at dksX1_digest_4 3 rfl rfl)
theorem dX1_digest_98 : decode cX1_digest 98 = .ok (.iconst 0, 1) := dk_3 (dk_at dksX1_digest_4 5 rfl rfl)
theorem dX1_digest_99 : decode cX1_digest 99 = .ok (.istore 6, 2) := dk_54 6 (dk_at dksX1_digest_4 6 rfl rfl)
theorem dX1_digest_101 : decode cX1_digest 101 = .ok (.iload 6, 2) := dk_21 6 (dk_at dksX1_digest_4 8 rfl rfl)
theorem dX1_digest_103 : decode cX1_digest 103 = .ok (.bipush 6, 2) := dk_16 6 (dk_at dksX1_digest_4 10 rfl rfl)
theorem dX1_digest_105 : decode cX1_digest 105 = .ok (.if_icmp .ge 24, 3) := dk_162 0 24 (dk_at dksX1_digest_4 12 rfl rfl)
theorem dX1_digest_108 : decode cX1_digest 108 = .ok (.ldc2_w 277, 3) := dk_20 1 21 (dk_at dksX1_digest_4 15 rfl rfl)
theorem dX1_digest_111 : decode cX1_digest 111 = .ok (.lload_n 2, 1) := dk_32 (dk_at dksX1_digest_4 18 rfl rfl)
theorem dX1_digest_112 : decode cX1_digest 112 = .ok (.lmul, 1) := dk_105 (dk_at dksX1_digest_4 19 rfl rfl)
theorem dX1_digest_113 : decode cX1_digest 113 = .ok (.aload 5, 2) := dk_25 5 (dk_at dksX1_digest_4 20 rfl rfl)
theorem dX1_digest_115 : decode cX1_digest 115 = .ok (.iload 6, 2) := dk_21 6 (dk_at dksX1_digest_4 22 rfl rfl)
theorem dX1_digest_117 : decode cX1_digest 117 = .ok (.invokevirtual 185, 3) := dk_182 0 185 (dk_at dksX1_digest_5 0 rfl rfl)
theorem dX1_digest_120 : decode cX1_digest 120 = .ok (.i2l, 1) := dk_133 (dk_at dksX1_digest_5 3 rfl rfl)
theorem dX1_digest_121 : decode cX1_digest 121 = .ok (.ladd, 1) := dk_97 (dk_at dksX1_digest_5 4 rfl rfl)
theorem dX1_digest_122 : decode cX1_digest 122 = .ok (.lstore_n 2, 1) := dk_65 (dk_at dksX1_digest_5 5 rfl rfl)
theorem dX1_digest_123 : decode cX1_digest 123 = .ok (.iinc 6 1, 3) := dk_132 6 1 (dk_at dksX1_digest_5 6 rfl rfl)
theorem dX1_digest_126 : decode cX1_digest 126 = .ok (.goto (-25), 3) := dk_167 255 231 (dk_at dksX1_digest_5 9 rfl rfl)
theorem dX1_digest_129 : decode cX1_digest 129 = .ok (.iconst 0, 1) := dk_3 (dk_at dksX1_digest_5 12 rfl rfl)
theorem dX1_digest_130 : decode cX1_digest 130 = .ok (.istore 6, 2) := dk_54 6 (dk_at dksX1_digest_5 13 rfl rfl)
theorem dX1_digest_132 : decode cX1_digest 132 = .ok (.iload 6, 2) := dk_21 6 (dk_at dksX1_digest_5 15 rfl rfl)
theorem dX1_digest_134 : decode cX1_digest 134 = .ok (.bipush 8, 2) := dk_16 8 (dk_at dksX1_digest_5 17 rfl rfl)
theorem dX1_digest_136 : decode cX1_digest 136 = .ok (.if_icmp .ge 28, 3) := dk_162 0 28 (dk_at dksX1_digest_5 19 rfl rfl)
theorem dX1_digest_139 : decode cX1_digest 139 = .ok (.ldc2_w 277, 3) := dk_20 1 21 (dk_at dksX1_digest_6 0 rfl rfl)
theorem dX1_digest_142 : decode cX1_digest 142 = .ok (.lload_n 2, 1) := dk_32 (dk_at dksX1_digest_6 3 rfl rfl)
theorem dX1_digest_143 : decode cX1_digest 143 = .ok (.lmul, 1) := dk_105 (dk_at dksX1_digest_6 4 rfl rfl)
theorem dX1_digest_144 : decode cX1_digest 144 = .ok (.aload 5, 2) := dk_25 5 (dk_at dksX1_digest_6 5 rfl rfl)
theorem dX1_digest_146 : decode cX1_digest 146 = .ok (.iload 6, 2) := dk_21 6 (dk_at dksX1_digest_6 7 rfl rfl)
theorem dX1_digest_148 : decode cX1_digest 148 = .ok (.aload_n 1, 1) := dk_43 (dk_at dksX1_digest_6 9 rfl rfl)
theorem dX1_digest_149 : decode cX1_digest 149 = .ok (.getfield 173, 3) := dk_180 0 173 (dk_at dksX1_digest_6 10 rfl rfl)
theorem dX1_digest_152 : decode cX1_digest 152 = .ok (.invokevirtual 217, 3) := dk_182 0 217 (dk_at dksX1_digest_6 13 rfl rfl)
theorem dX1_digest_155 : decode cX1_digest 155 = .ok (.i2l, 1) := dk_133 (dk_at dksX1_digest_6 16 rfl rfl)
theorem dX1_digest_156 : decode cX1_digest 156 = .ok (.ladd, 1) := dk_97 (dk_at dksX1_digest_6 17 rfl rfl)
theorem dX1_digest_157 : decode cX1_digest 157 = .ok (.lstore_n 2, 1) := dk_65 (dk_at dksX1_digest_6 18 rfl rfl)
theorem dX1_digest_158 : decode cX1_digest 158 = .ok (.iinc 6 1, 3) := dk_132 6 1 (dk_at dksX1_digest_6 19 rfl rfl)
theorem dX1_digest_161 : decode cX1_digest 161 = .ok (.goto (-29), 3) := dk_167 255 227 (dk_at dksX1_digest_7 0 rfl rfl)
theorem dX1_digest_164 : decode cX1_digest 164 = .ok (.iinc 4 1, 3) := dk_132 4 1 (dk_at dksX1_digest_7 3 rfl rfl)
theorem dX1_digest_167 : decode cX1_digest 167 = .ok (.goto (-95), 3) := dk_167 255 161 (dk_at dksX1_digest_7 6 rfl rfl)
theorem dX1_digest_170 : decode cX1_digest 170 = .ok (.lload_n 2, 1) := dk_32 (dk_at dksX1_digest_7 9 rfl rfl)
theorem dX1_digest_171 : decode cX1_digest 171 = .ok (.aload_n 1, 1) := dk_43 (dk_at dksX1_digest_7 10 rfl rfl)
theorem dX1_digest_172 : decode cX1_digest 172 = .ok (.getfield 289, 3) := dk_180 1 33 (dk_at dksX1_digest_7 11 rfl rfl)
theorem dX1_digest_175 : decode cX1_digest 175 = .ok (.invokestatic 279, 3) := dk_184 1 23 (dk_at dksX1_digest_7 14 rfl rfl)
theorem dX1_digest_178 : decode cX1_digest 178 = .ok (.iconst 1, 1) := dk_4 (dk_at dksX1_digest_7 17 rfl rfl)
theorem dX1_digest_179 : decode cX1_digest 179 = .ok (.newarray .int, 2) := dk_188_10 (dk_at dksX1_digest_7 18 rfl rfl)
theorem dX1_digest_181 : decode cX1_digest 181 = .ok (.dup, 1) := dk_89 (dk_at dksX1_digest_7 20 rfl rfl)
theorem dX1_digest_182 : decode cX1_digest 182 = .ok (.iconst 0, 1) := dk_3 (dk_at dksX1_digest_7 21 rfl rfl)
theorem dX1_digest_183 : decode cX1_digest 183 = .ok (.aload_n 1, 1) := dk_43 (dk_at dksX1_digest_7 22 rfl rfl)
theorem dX1_digest_184 : decode cX1_digest 184 = .ok (.getfield 190, 3) := dk_180 0 190 (dk_at dksX1_digest_8 0 rfl rfl)
theorem dX1_digest_187 : decode cX1_digest 187 = .ok (.invokevirtual 108, 3) := dk_182 0 108 (dk_at dksX1_digest_8 3 rfl rfl)
theorem dX1_digest_190 : decode cX1_digest 190 = .ok (.iastore, 1) := dk_79 (dk_at dksX1_digest_8 6 rfl rfl)
theorem dX1_digest_191 : decode cX1_digest 191 = .ok (.invokestatic 279, 3) := dk_184 1 23 (dk_at dksX1_digest_8 7 rfl rfl)
theorem dX1_digest_194 : decode cX1_digest 194 = .ok (.lstore_n 2, 1) := dk_65 (dk_at dksX1_digest_8 10 rfl rfl)
theorem dX1_digest_195 : decode cX1_digest 195 = .ok (.iconst 0, 1) := dk_3 (dk_at dksX1_digest_8 11 rfl rfl)
theorem dX1_digest_196 : decode cX1_digest 196 = .ok (.istore 4, 2) := dk_54 4 (dk_at dksX1_digest_8 12 rfl rfl)
theorem dX1_digest_198 : decode cX1_digest 198 = .ok (.iload 4, 2) := dk_21 4 (dk_at dksX1_digest_8 14 rfl rfl)
theorem dX1_digest_200 : decode cX1_digest 200 = .ok (.aload_n 1, 1) := dk_43 (dk_at dksX1_digest_8 16 rfl rfl)
theorem dX1_digest_201 : decode cX1_digest 201 = .ok (.getfield 190, 3) := dk_180 0 190 (dk_at dksX1_digest_8 17 rfl rfl)
theorem dX1_digest_204 : decode cX1_digest 204 = .ok (.invokevirtual 108, 3) := dk_182 0 108 (dk_at dksX1_digest_8 20 rfl rfl)
theorem dX1_digest_207 : decode cX1_digest 207 = .ok (.if_icmp .ge 26, 3) := dk_162 0 26 (dk_at dksX1_digest_9 0 rfl rfl)
theorem dX1_digest_210 : decode cX1_digest 210 = .ok (.lload_n 2, 1) := dk_32 (dk_at dksX1_digest_9 3 rfl rfl)
theorem dX1_digest_211 : decode cX1_digest 211 = .ok (.aload_n 1, 1) := dk_43 (dk_at dksX1_digest_9 4 rfl rfl)
theorem dX1_digest_212 : decode cX1_digest 212 = .ok (.getfield 190, 3) := dk_180 0 190 (dk_at dksX1_digest_9 5 rfl rfl)
theorem dX1_digest_215 : decode cX1_digest 215 = .ok (.iload 4, 2) := dk_21 4 (dk_at dksX1_digest_9 8 rfl rfl)
theorem dX1_digest_217 : decode cX1_digest 217 = .ok (.invokevirtual 285, 3) := dk_182 1 29 (dk_at dksX1_digest_9 10 rfl rfl)
theorem dX1_digest_220 : decode cX1_digest 220 = .ok (.checkcast 197, 3) := dk_192 0 197 (dk_at dksX1_digest_9 13 rfl rfl)
theorem dX1_digest_223 : decode cX1_digest 223 = .ok (.invokestatic 292, 3) := dk_184 1 36 (dk_at dksX1_digest_9 16 rfl rfl)
theorem dX1_digest_226 : decode cX1_digest 226 = .ok (.lstore_n 2, 1) := dk_65 (dk_at dksX1_digest_9 19 rfl rfl)
theorem dX1_digest_227 : decode cX1_digest 227 = .ok (.iinc 4 1, 3) := dk_132 4 1 (dk_at dksX1_digest_9 20 rfl rfl)
theorem dX1_digest_230 : decode cX1_digest 230 = .ok (.goto (-32), 3) := dk_167 255 224 (dk_at dksX1_digest_10 0 rfl rfl)
theorem dX1_digest_233 : decode cX1_digest 233 = .ok (.iconst 0, 1) := dk_3 (dk_at dksX1_digest_10 3 rfl rfl)
theorem dX1_digest_234 : decode cX1_digest 234 = .ok (.istore 4, 2) := dk_54 4 (dk_at dksX1_digest_10 4 rfl rfl)
theorem dX1_digest_236 : decode cX1_digest 236 = .ok (.iload 4, 2) := dk_21 4 (dk_at dksX1_digest_10 6 rfl rfl)
theorem dX1_digest_238 : decode cX1_digest 238 = .ok (.iconst 4, 1) := dk_7 (dk_at dksX1_digest_10 8 rfl rfl)
theorem dX1_digest_239 : decode cX1_digest 239 = .ok (.if_icmp .ge 57, 3) := dk_162 0 57 (dk_at dksX1_digest_10 9 rfl rfl)
theorem dX1_digest_242 : decode cX1_digest 242 = .ok (.lload_n 2, 1) := dk_32 (dk_at dksX1_digest_10 12 rfl rfl)
theorem dX1_digest_243 : decode cX1_digest 243 = .ok (.iconst 4, 1) := dk_7 (dk_at dksX1_digest_10 13 rfl rfl)
theorem dX1_digest_244 : decode cX1_digest 244 = .ok (.newarray .int, 2) := dk_188_10 (dk_at dksX1_digest_10 14 rfl rfl)
theorem dX1_digest_246 : decode cX1_digest 246 = .ok (.dup, 1) := dk_89 (dk_at dksX1_digest_10 16 rfl rfl)
theorem dX1_digest_247 : decode cX1_digest 247 = .ok (.iconst 0, 1) := dk_3 (dk_at dksX1_digest_10 17 rfl rfl)
theorem dX1_digest_248 : decode cX1_digest 248 = .ok (.aload_n 1, 1) := dk_43 (dk_at dksX1_digest_10 18 rfl rfl)
theorem dX1_digest_249 : decode cX1_digest 249 = .ok (.iload 4, 2) := dk_21 4 (dk_at dksX1_digest_10 19 rfl rfl)
theorem dX1_digest_251 : decode cX1_digest 251 = .ok (.iconst 0, 1) := dk_3 (dk_at dksX1_digest_10 21 rfl rfl)
theorem dX1_digest_252 : decode cX1_digest 252 = .ok (.invokevirtual 220, 3) := dk_182 0 220 (dk_at dksX1_digest_11 0 rfl rfl)
theorem dX1_digest_255 : decode cX1_digest 255 = .ok (.iastore, 1) := dk_79 (dk_at dksX1_digest_11 3 rfl rfl)
theorem dX1_digest_256 : decode cX1_digest 256 = .ok (.dup, 1) := dk_89 (dk_at dksX1_digest_11 4 rfl rfl)
theorem dX1_digest_257 : decode cX1_digest 257 = .ok (.iconst 1, 1) := dk_4 (dk_at dksX1_digest_11 5 rfl rfl)
theorem dX1_digest_258 : decode cX1_digest 258 = .ok (.aload_n 1, 1) := dk_43 (dk_at dksX1_digest_11 6 rfl rfl)
theorem dX1_digest_259 : decode cX1_digest 259 = .ok (.iload 4, 2) := dk_21 4 (dk_at dksX1_digest_11 7 rfl rfl)
theorem dX1_digest_261 : decode cX1_digest 261 = .ok (.iconst 1, 1) := dk_4 (dk_at dksX1_digest_11 9 rfl rfl)
theorem dX1_digest_262 : decode cX1_digest 262 = .ok (.invokevirtual 220, 3) := dk_182 0 220 (dk_at dksX1_digest_11 10 rfl rfl)
theorem dX1_digest_265 : decode cX1_digest 265 = .ok (.iastore, 1) := dk_79 (dk_at dksX1_digest_11 13 rfl rfl)
theorem dX1_digest_266 : decode cX1_digest 266 = .ok (.dup, 1) := dk_89 (dk_at dksX1_digest_11 14 rfl rfl)
theorem dX1_digest_267 : decode cX1_digest 267 = .ok (.iconst 2, 1) := dk_5 (dk_at dksX1_digest_11 15 rfl rfl)
theorem dX1_digest_268 : decode cX1_digest 268 = .ok (.aload_n 1, 1) := dk_43 (dk_at dksX1_digest_11 16 rfl rfl)
theorem dX1_digest_269 : decode cX1_digest 269 = .ok (.iload 4, 2) := dk_21 4 (dk_at dksX1_digest_11 17 rfl rfl)
theorem dX1_digest_271 : decode cX1_digest 271 = .ok (.iconst 2, 1) := dk_5 (dk_at dksX1_digest_11 19 rfl rfl)
theorem dX1_digest_272 : decode cX1_digest 272 = .ok (.invokevirtual 220, 3) := dk_182 0 220 (dk_at dksX1_digest_11 20 rfl rfl)
theorem dX1_digest_275 : decode cX1_digest 275 = .ok (.iastore, 1) := dk_79 (dk_at dksX1_digest_11 23 rfl rfl)
theorem dX1_digest_276 : decode cX1_digest 276 = .ok (.dup, 1) := dk_89 (dk_at dksX1_digest_12 0 rfl rfl)
theorem dX1_digest_277 : decode cX1_digest 277 = .ok (.iconst 3, 1) := dk_6 (dk_at dksX1_digest_12 1 rfl rfl)
theorem dX1_digest_278 : decode cX1_digest 278 = .ok (.aload_n 1, 1) := dk_43 (dk_at dksX1_digest_12 2 rfl rfl)
theorem dX1_digest_279 : decode cX1_digest 279 = .ok (.iload 4, 2) := dk_21 4 (dk_at dksX1_digest_12 3 rfl rfl)
theorem dX1_digest_281 : decode cX1_digest 281 = .ok (.iconst 3, 1) := dk_6 (dk_at dksX1_digest_12 5 rfl rfl)
theorem dX1_digest_282 : decode cX1_digest 282 = .ok (.invokevirtual 220, 3) := dk_182 0 220 (dk_at dksX1_digest_12 6 rfl rfl)
theorem dX1_digest_285 : decode cX1_digest 285 = .ok (.iastore, 1) := dk_79 (dk_at dksX1_digest_12 9 rfl rfl)
theorem dX1_digest_286 : decode cX1_digest 286 = .ok (.invokestatic 279, 3) := dk_184 1 23 (dk_at dksX1_digest_12 10 rfl rfl)
theorem dX1_digest_289 : decode cX1_digest 289 = .ok (.lstore_n 2, 1) := dk_65 (dk_at dksX1_digest_12 13 rfl rfl)
theorem dX1_digest_290 : decode cX1_digest 290 = .ok (.iinc 4 1, 3) := dk_132 4 1 (dk_at dksX1_digest_12 14 rfl rfl)
theorem dX1_digest_293 : decode cX1_digest 293 = .ok (.goto (-57), 3) := dk_167 255 199 (dk_at dksX1_digest_12 17 rfl rfl)
theorem dX1_digest_296 : decode cX1_digest 296 = .ok (.iconst 0, 1) := dk_3 (dk_at dksX1_digest_12 20 rfl rfl)
theorem dX1_digest_297 : decode cX1_digest 297 = .ok (.istore 4, 2) := dk_54 4 (dk_at dksX1_digest_12 21 rfl rfl)
theorem dX1_digest_299 : decode cX1_digest 299 = .ok (.iload 4, 2) := dk_21 4 (dk_at dksX1_digest_13 0 rfl rfl)
theorem dX1_digest_301 : decode cX1_digest 301 = .ok (.bipush 7, 2) := dk_16 7 (dk_at dksX1_digest_13 2 rfl rfl)
theorem dX1_digest_303 : decode cX1_digest 303 = .ok (.if_icmp .ge 23, 3) := dk_162 0 23 (dk_at dksX1_digest_13 4 rfl rfl)
theorem dX1_digest_306 : decode cX1_digest 306 = .ok (.ldc2_w 277, 3) := dk_20 1 21 (dk_at dksX1_digest_13 7 rfl rfl)
theorem dX1_digest_309 : decode cX1_digest 309 = .ok (.lload_n 2, 1) := dk_32 (dk_at dksX1_digest_13 10 rfl rfl)
theorem dX1_digest_310 : decode cX1_digest 310 = .ok (.lmul, 1) := dk_105 (dk_at dksX1_digest_13 11 rfl rfl)
theorem dX1_digest_311 : decode cX1_digest 311 = .ok (.aload_n 1, 1) := dk_43 (dk_at dksX1_digest_13 12 rfl rfl)
theorem dX1_digest_312 : decode cX1_digest 312 = .ok (.iload 4, 2) := dk_21 4 (dk_at dksX1_digest_13 13 rfl rfl)
theorem dX1_digest_314 : decode cX1_digest 314 = .ok (.invokevirtual 233, 3) := dk_182 0 233 (dk_at dksX1_digest_13 15 rfl rfl)
theorem dX1_digest_317 : decode cX1_digest 317 = .ok (.i2l, 1) := dk_133 (dk_at dksX1_digest_13 18 rfl rfl)
theorem dX1_digest_318 : decode cX1_digest 318 = .ok (.ladd, 1) := dk_97 (dk_at dksX1_digest_13 19 rfl rfl)
theorem dX1_digest_319 : decode cX1_digest 319 = .ok (.lstore_n 2, 1) := dk_65 (dk_at dksX1_digest_13 20 rfl rfl)
theorem dX1_digest_320 : decode cX1_digest 320 = .ok (.iinc 4 1, 3) := dk_132 4 1 (dk_at dksX1_digest_13 21 rfl rfl)
theorem dX1_digest_323 : decode cX1_digest 323 = .ok (.goto (-24), 3) := dk_167 255 232 (dk_at dksX1_digest_14 0 rfl rfl)
theorem dX1_digest_326 : decode cX1_digest 326 = .ok (.ldc2_w 277, 3) := dk_20 1 21 (dk_at dksX1_digest_14 3 rfl rfl)
theorem dX1_digest_329 : decode cX1_digest 329 = .ok (.lload_n 2, 1) := dk_32 (dk_at dksX1_digest_14 6 rfl rfl)
theorem dX1_digest_330 : decode cX1_digest 330 = .ok (.lmul, 1) := dk_105 (dk_at dksX1_digest_14 7 rfl rfl)
theorem dX1_digest_331 : decode cX1_digest 331 = .ok (.aload_n 1, 1) := dk_43 (dk_at dksX1_digest_14 8 rfl rfl)
theorem dX1_digest_332 : decode cX1_digest 332 = .ok (.invokevirtual 236, 3) := dk_182 0 236 (dk_at dksX1_digest_14 9 rfl rfl)
theorem dX1_digest_335 : decode cX1_digest 335 = .ok (.ifCond .eq 7, 3) := dk_153 0 7 (dk_at dksX1_digest_14 12 rfl rfl)
theorem dX1_digest_338 : decode cX1_digest 338 = .ok (.iconst 1, 1) := dk_4 (dk_at dksX1_digest_14 15 rfl rfl)
theorem dX1_digest_339 : decode cX1_digest 339 = .ok (.goto 4, 3) := dk_167 0 4 (dk_at dksX1_digest_14 16 rfl rfl)
theorem dX1_digest_342 : decode cX1_digest 342 = .ok (.iconst 0, 1) := dk_3 (dk_at dksX1_digest_14 19 rfl rfl)
theorem dX1_digest_343 : decode cX1_digest 343 = .ok (.i2l, 1) := dk_133 (dk_at dksX1_digest_14 20 rfl rfl)
theorem dX1_digest_344 : decode cX1_digest 344 = .ok (.ladd, 1) := dk_97 (dk_at dksX1_digest_14 21 rfl rfl)
theorem dX1_digest_345 : decode cX1_digest 345 = .ok (.lreturn, 1) := dk_173 (dk_at dksX1_digest_14 22 rfl rfl)
abbrev cX1_hash : ByteArray := prog_1_method_36_code
def yX1_hash : MethodName := ⟨RX1, "hash", "(J[I)J"⟩
def dkwX1_hash_1 : List UInt8 := [46, 54, 8, 20, 1, 21, 33, 105, 21, 8, 133, 97, 66, 132, 7, 1, 167, 255, 229, 33, 173]
abbrev dktX1_hash_1 : List UInt8 := dkwX1_hash_1 ++ []
def dkwX1_hash_0 : List UInt8 := [30, 66, 44, 58, 5, 25, 5, 190, 54, 6, 3, 54, 7, 21, 7, 21, 6, 162, 0, 26, 25, 5, 21, 7]
abbrev dktX1_hash_0 : List UInt8 := dkwX1_hash_0 ++ dktX1_hash_1
theorem dksX1_hash_0 : cX1_hash.data.toList.drop 0 = dktX1_hash_0 := by decide +kernel
theorem dksX1_hash_1 : cX1_hash.data.toList.drop 24 = dktX1_hash_1 := dk_seg dksX1_hash_0 24 rfl rfl
theorem dX1_hash_0 : decode cX1_hash 0 = .ok (.lload_n 0, 1) := dk_30 (dk_at dksX1_hash_0 0 rfl rfl)
theorem dX1_hash_1 : decode cX1_hash 1 = .ok (.lstore_n 3, 1) := dk_66 (dk_at dksX1_hash_0 1 rfl rfl)
theorem dX1_hash_2 : decode cX1_hash 2 = .ok (.aload_n 2, 1) := dk_44 (dk_at dksX1_hash_0 2 rfl rfl)
theorem dX1_hash_3 : decode cX1_hash 3 = .ok (.astore 5, 2) := dk_58 5 (dk_at dksX1_hash_0 3 rfl rfl)
theorem dX1_hash_5 : decode cX1_hash 5 = .ok (.aload 5, 2) := dk_25 5 (dk_at dksX1_hash_0 5 rfl rfl)
theorem dX1_hash_7 : decode cX1_hash 7 = .ok (.arraylength, 1) := dk_190 (dk_at dksX1_hash_0 7 rfl rfl)
theorem dX1_hash_8 : decode cX1_hash 8 = .ok (.istore 6, 2) := dk_54 6 (dk_at dksX1_hash_0 8 rfl rfl)
theorem dX1_hash_10 : decode cX1_hash 10 = .ok (.iconst 0, 1) := dk_3 (dk_at dksX1_hash_0 10 rfl rfl)
theorem dX1_hash_11 : decode cX1_hash 11 = .ok (.istore 7, 2) := dk_54 7 (dk_at dksX1_hash_0 11 rfl rfl)
theorem dX1_hash_13 : decode cX1_hash 13 = .ok (.iload 7, 2) := dk_21 7 (dk_at dksX1_hash_0 13 rfl rfl)
theorem dX1_hash_15 : decode cX1_hash 15 = .ok (.iload 6, 2) := dk_21 6 (dk_at dksX1_hash_0 15 rfl rfl)
theorem dX1_hash_17 : decode cX1_hash 17 = .ok (.if_icmp .ge 26, 3) := dk_162 0 26 (dk_at dksX1_hash_0 17 rfl rfl)
theorem dX1_hash_20 : decode cX1_hash 20 = .ok (.aload 5, 2) := dk_25 5 (dk_at dksX1_hash_0 20 rfl rfl)
theorem dX1_hash_22 : decode cX1_hash 22 = .ok (.iload 7, 2) := dk_21 7 (dk_at dksX1_hash_0 22 rfl rfl)
theorem dX1_hash_24 : decode cX1_hash 24 = .ok (.iaload, 1) := dk_46 (dk_at dksX1_hash_1 0 rfl rfl)
theorem dX1_hash_25 : decode cX1_hash 25 = .ok (.istore 8, 2) := dk_54 8 (dk_at dksX1_hash_1 1 rfl rfl)
theorem dX1_hash_27 : decode cX1_hash 27 = .ok (.ldc2_w 277, 3) := dk_20 1 21 (dk_at dksX1_hash_1 3 rfl rfl)
theorem dX1_hash_30 : decode cX1_hash 30 = .ok (.lload_n 3, 1) := dk_33 (dk_at dksX1_hash_1 6 rfl rfl)
theorem dX1_hash_31 : decode cX1_hash 31 = .ok (.lmul, 1) := dk_105 (dk_at dksX1_hash_1 7 rfl rfl)
theorem dX1_hash_32 : decode cX1_hash 32 = .ok (.iload 8, 2) := dk_21 8 (dk_at dksX1_hash_1 8 rfl rfl)
theorem dX1_hash_34 : decode cX1_hash 34 = .ok (.i2l, 1) := dk_133 (dk_at dksX1_hash_1 10 rfl rfl)
theorem dX1_hash_35 : decode cX1_hash 35 = .ok (.ladd, 1) := dk_97 (dk_at dksX1_hash_1 11 rfl rfl)
theorem dX1_hash_36 : decode cX1_hash 36 = .ok (.lstore_n 3, 1) := dk_66 (dk_at dksX1_hash_1 12 rfl rfl)
theorem dX1_hash_37 : decode cX1_hash 37 = .ok (.iinc 7 1, 3) := dk_132 7 1 (dk_at dksX1_hash_1 13 rfl rfl)
theorem dX1_hash_40 : decode cX1_hash 40 = .ok (.goto (-27), 3) := dk_167 255 229 (dk_at dksX1_hash_1 16 rfl rfl)
theorem dX1_hash_43 : decode cX1_hash 43 = .ok (.lload_n 3, 1) := dk_33 (dk_at dksX1_hash_1 19 rfl rfl)
theorem dX1_hash_44 : decode cX1_hash 44 = .ok (.lreturn, 1) := dk_173 (dk_at dksX1_hash_1 20 rfl rfl)
abbrev cX1_hashLink : ByteArray := prog_1_method_37_code
def yX1_hashLink : MethodName := ⟨RX1, "hashLink", "(JLBridgeAuction$Link;)J"⟩
def dkwX1_hashLink_4 : List UInt8 := [167, 255, 230, 33, 44, 180, 0, 228, 184, 1, 23, 173]
abbrev dktX1_hashLink_4 : List UInt8 := dkwX1_hashLink_4 ++ []
def dkwX1_hashLink_3 : List UInt8 := [162, 0, 26, 20, 1, 21, 33, 105, 44, 180, 0, 199, 21, 5, 182, 0, 206, 133, 97, 66, 132, 5, 1]
abbrev dktX1_hashLink_3 : List UInt8 := dkwX1_hashLink_3 ++ dktX1_hashLink_4
def dkwX1_hashLink_2 : List UInt8 := [180, 0, 203, 21, 5, 182, 0, 206, 133, 97, 66, 132, 5, 1, 167, 255, 230, 3, 54, 5, 21, 5, 6]
abbrev dktX1_hashLink_2 : List UInt8 := dkwX1_hashLink_2 ++ dktX1_hashLink_3
def dkwX1_hashLink_1 : List UInt8 := [97, 66, 132, 5, 1, 167, 255, 232, 3, 54, 5, 21, 5, 6, 162, 0, 26, 20, 1, 21, 33, 105, 44]
abbrev dktX1_hashLink_1 : List UInt8 := dkwX1_hashLink_1 ++ dktX1_hashLink_2
def dkwX1_hashLink_0 : List UInt8 := [30, 66, 3, 54, 5, 21, 5, 16, 9, 162, 0, 23, 20, 1, 21, 33, 105, 44, 21, 5, 182, 0, 196, 133]
abbrev dktX1_hashLink_0 : List UInt8 := dkwX1_hashLink_0 ++ dktX1_hashLink_1
theorem dksX1_hashLink_0 : cX1_hashLink.data.toList.drop 0 = dktX1_hashLink_0 := by decide +kernel
theorem dksX1_hashLink_1 : cX1_hashLink.data.toList.drop 24 = dktX1_hashLink_1 := dk_seg dksX1_hashLink_0 24 rfl rfl
theorem dksX1_hashLink_2 : cX1_hashLink.data.toList.drop 47 = dktX1_hashLink_2 := dk_seg dksX1_hashLink_1 23 rfl rfl
theorem dksX1_hashLink_3 : cX1_hashLink.data.toList.drop 70 = dktX1_hashLink_3 := dk_seg dksX1_hashLink_2 23 rfl rfl
theorem dksX1_hashLink_4 : cX1_hashLink.data.toList.drop 93 = dktX1_hashLink_4 := dk_seg dksX1_hashLink_3 23 rfl rfl
theorem dX1_hashLink_0 : decode cX1_hashLink 0 = .ok (.lload_n 0, 1) := dk_30 (dk_at dksX1_hashLink_0 0 rfl rfl)
theorem dX1_hashLink_1 : decode cX1_hashLink 1 = .ok (.lstore_n 3, 1) := dk_66 (dk_at dksX1_hashLink_0 1 rfl rfl)
theorem dX1_hashLink_2 : decode cX1_hashLink 2 = .ok (.iconst 0, 1) := dk_3 (dk_at dksX1_hashLink_0 2 rfl rfl)
theorem dX1_hashLink_3 : decode cX1_hashLink 3 = .ok (.istore 5, 2) := dk_54 5 (dk_at dksX1_hashLink_0 3 rfl rfl)
theorem dX1_hashLink_5 : decode cX1_hashLink 5 = .ok (.iload 5, 2) := dk_21 5 (dk_at dksX1_hashLink_0 5 rfl rfl)
theorem dX1_hashLink_7 : decode cX1_hashLink 7 = .ok (.bipush 9, 2) := dk_16 9 (dk_at dksX1_hashLink_0 7 rfl rfl)
theorem dX1_hashLink_9 : decode cX1_hashLink 9 = .ok (.if_icmp .ge 23, 3) := dk_162 0 23 (dk_at dksX1_hashLink_0 9 rfl rfl)
theorem dX1_hashLink_12 : decode cX1_hashLink 12 = .ok (.ldc2_w 277, 3) := dk_20 1 21 (dk_at dksX1_hashLink_0 12 rfl rfl)
theorem dX1_hashLink_15 : decode cX1_hashLink 15 = .ok (.lload_n 3, 1) := dk_33 (dk_at dksX1_hashLink_0 15 rfl rfl)
theorem dX1_hashLink_16 : decode cX1_hashLink 16 = .ok (.lmul, 1) := dk_105 (dk_at dksX1_hashLink_0 16 rfl rfl)
theorem dX1_hashLink_17 : decode cX1_hashLink 17 = .ok (.aload_n 2, 1) := dk_44 (dk_at dksX1_hashLink_0 17 rfl rfl)
theorem dX1_hashLink_18 : decode cX1_hashLink 18 = .ok (.iload 5, 2) := dk_21 5 (dk_at dksX1_hashLink_0 18 rfl rfl)
theorem dX1_hashLink_20 : decode cX1_hashLink 20 = .ok (.invokevirtual 196, 3) := dk_182 0 196 (dk_at dksX1_hashLink_0 20 rfl rfl)
theorem dX1_hashLink_23 : decode cX1_hashLink 23 = .ok (.i2l, 1) := dk_133 (dk_at dksX1_hashLink_0 23 rfl rfl)
theorem dX1_hashLink_24 : decode cX1_hashLink 24 = .ok (.ladd, 1) := dk_97 (dk_at dksX1_hashLink_1 0 rfl rfl)
theorem dX1_hashLink_25 : decode cX1_hashLink 25 = .ok (.lstore_n 3, 1) := dk_66 (dk_at dksX1_hashLink_1 1 rfl rfl)
theorem dX1_hashLink_26 : decode cX1_hashLink 26 = .ok (.iinc 5 1, 3) := dk_132 5 1 (dk_at dksX1_hashLink_1 2 rfl rfl)
theorem dX1_hashLink_29 : decode cX1_hashLink 29 = .ok (.goto (-24), 3) := dk_167 255 232 (dk_at dksX1_hashLink_1 5 rfl rfl)
theorem dX1_hashLink_32 : decode cX1_hashLink 32 = .ok (.iconst 0, 1) := dk_3 (dk_at dksX1_hashLink_1 8 rfl rfl)
theorem dX1_hashLink_33 : decode cX1_hashLink 33 = .ok (.istore 5, 2) := dk_54 5 (dk_at dksX1_hashLink_1 9 rfl rfl)
theorem dX1_hashLink_35 : decode cX1_hashLink 35 = .ok (.iload 5, 2) := dk_21 5 (dk_at dksX1_hashLink_1 11 rfl rfl)
theorem dX1_hashLink_37 : decode cX1_hashLink 37 = .ok (.iconst 3, 1) := dk_6 (dk_at dksX1_hashLink_1 13 rfl rfl)
theorem dX1_hashLink_38 : decode cX1_hashLink 38 = .ok (.if_icmp .ge 26, 3) := dk_162 0 26 (dk_at dksX1_hashLink_1 14 rfl rfl)
theorem dX1_hashLink_41 : decode cX1_hashLink 41 = .ok (.ldc2_w 277, 3) := dk_20 1 21 (dk_at dksX1_hashLink_1 17 rfl rfl)
theorem dX1_hashLink_44 : decode cX1_hashLink 44 = .ok (.lload_n 3, 1) := dk_33 (dk_at dksX1_hashLink_1 20 rfl rfl)
theorem dX1_hashLink_45 : decode cX1_hashLink 45 = .ok (.lmul, 1) := dk_105 (dk_at dksX1_hashLink_1 21 rfl rfl)
theorem dX1_hashLink_46 : decode cX1_hashLink 46 = .ok (.aload_n 2, 1) := dk_44 (dk_at dksX1_hashLink_1 22 rfl rfl)
theorem dX1_hashLink_47 : decode cX1_hashLink 47 = .ok (.getfield 203, 3) := dk_180 0 203 (dk_at dksX1_hashLink_2 0 rfl rfl)
theorem dX1_hashLink_50 : decode cX1_hashLink 50 = .ok (.iload 5, 2) := dk_21 5 (dk_at dksX1_hashLink_2 3 rfl rfl)
theorem dX1_hashLink_52 : decode cX1_hashLink 52 = .ok (.invokevirtual 206, 3) := dk_182 0 206 (dk_at dksX1_hashLink_2 5 rfl rfl)
theorem dX1_hashLink_55 : decode cX1_hashLink 55 = .ok (.i2l, 1) := dk_133 (dk_at dksX1_hashLink_2 8 rfl rfl)
theorem dX1_hashLink_56 : decode cX1_hashLink 56 = .ok (.ladd, 1) := dk_97 (dk_at dksX1_hashLink_2 9 rfl rfl)
theorem dX1_hashLink_57 : decode cX1_hashLink 57 = .ok (.lstore_n 3, 1) := dk_66 (dk_at dksX1_hashLink_2 10 rfl rfl)
theorem dX1_hashLink_58 : decode cX1_hashLink 58 = .ok (.iinc 5 1, 3) := dk_132 5 1 (dk_at dksX1_hashLink_2 11 rfl rfl)
theorem dX1_hashLink_61 : decode cX1_hashLink 61 = .ok (.goto (-26), 3) := dk_167 255 230 (dk_at dksX1_hashLink_2 14 rfl rfl)
theorem dX1_hashLink_64 : decode cX1_hashLink 64 = .ok (.iconst 0, 1) := dk_3 (dk_at dksX1_hashLink_2 17 rfl rfl)
theorem dX1_hashLink_65 : decode cX1_hashLink 65 = .ok (.istore 5, 2) := dk_54 5 (dk_at dksX1_hashLink_2 18 rfl rfl)
theorem dX1_hashLink_67 : decode cX1_hashLink 67 = .ok (.iload 5, 2) := dk_21 5 (dk_at dksX1_hashLink_2 20 rfl rfl)
theorem dX1_hashLink_69 : decode cX1_hashLink 69 = .ok (.iconst 3, 1) := dk_6 (dk_at dksX1_hashLink_2 22 rfl rfl)
theorem dX1_hashLink_70 : decode cX1_hashLink 70 = .ok (.if_icmp .ge 26, 3) := dk_162 0 26 (dk_at dksX1_hashLink_3 0 rfl rfl)
theorem dX1_hashLink_73 : decode cX1_hashLink 73 = .ok (.ldc2_w 277, 3) := dk_20 1 21 (dk_at dksX1_hashLink_3 3 rfl rfl)
theorem dX1_hashLink_76 : decode cX1_hashLink 76 = .ok (.lload_n 3, 1) := dk_33 (dk_at dksX1_hashLink_3 6 rfl rfl)
theorem dX1_hashLink_77 : decode cX1_hashLink 77 = .ok (.lmul, 1) := dk_105 (dk_at dksX1_hashLink_3 7 rfl rfl)
theorem dX1_hashLink_78 : decode cX1_hashLink 78 = .ok (.aload_n 2, 1) := dk_44 (dk_at dksX1_hashLink_3 8 rfl rfl)
theorem dX1_hashLink_79 : decode cX1_hashLink 79 = .ok (.getfield 199, 3) := dk_180 0 199 (dk_at dksX1_hashLink_3 9 rfl rfl)
theorem dX1_hashLink_82 : decode cX1_hashLink 82 = .ok (.iload 5, 2) := dk_21 5 (dk_at dksX1_hashLink_3 12 rfl rfl)
theorem dX1_hashLink_84 : decode cX1_hashLink 84 = .ok (.invokevirtual 206, 3) := dk_182 0 206 (dk_at dksX1_hashLink_3 14 rfl rfl)
theorem dX1_hashLink_87 : decode cX1_hashLink 87 = .ok (.i2l, 1) := dk_133 (dk_at dksX1_hashLink_3 17 rfl rfl)
theorem dX1_hashLink_88 : decode cX1_hashLink 88 = .ok (.ladd, 1) := dk_97 (dk_at dksX1_hashLink_3 18 rfl rfl)
theorem dX1_hashLink_89 : decode cX1_hashLink 89 = .ok (.lstore_n 3, 1) := dk_66 (dk_at dksX1_hashLink_3 19 rfl rfl)
theorem dX1_hashLink_90 : decode cX1_hashLink 90 = .ok (.iinc 5 1, 3) := dk_132 5 1 (dk_at dksX1_hashLink_3 20 rfl rfl)
theorem dX1_hashLink_93 : decode cX1_hashLink 93 = .ok (.goto (-26), 3) := dk_167 255 230 (dk_at dksX1_hashLink_4 0 rfl rfl)
theorem dX1_hashLink_96 : decode cX1_hashLink 96 = .ok (.lload_n 3, 1) := dk_33 (dk_at dksX1_hashLink_4 3 rfl rfl)
theorem dX1_hashLink_97 : decode cX1_hashLink 97 = .ok (.aload_n 2, 1) := dk_44 (dk_at dksX1_hashLink_4 4 rfl rfl)
theorem dX1_hashLink_98 : decode cX1_hashLink 98 = .ok (.getfield 228, 3) := dk_180 0 228 (dk_at dksX1_hashLink_4 5 rfl rfl)
theorem dX1_hashLink_101 : decode cX1_hashLink 101 = .ok (.invokestatic 279, 3) := dk_184 1 23 (dk_at dksX1_hashLink_4 8 rfl rfl)
theorem dX1_hashLink_104 : decode cX1_hashLink 104 = .ok (.lreturn, 1) := dk_173 (dk_at dksX1_hashLink_4 11 rfl rfl)
abbrev cX1_setBridges : ByteArray := prog_1_method_9_code
def yX1_setBridges : MethodName := ⟨RX1, "setBridges", "(I)I"⟩
def dkwX1_setBridges_3 : List UInt8 := [172]
abbrev dktX1_setBridges_3 : List UInt8 := dkwX1_setBridges_3 ++ []
def dkwX1_setBridges_2 : List UInt8 := [180, 0, 60, 180, 0, 102, 181, 0, 102, 42, 44, 42, 180, 0, 60, 180, 0, 105, 182, 0, 108, 182, 0, 113]
abbrev dktX1_setBridges_2 : List UInt8 := dkwX1_setBridges_2 ++ dktX1_setBridges_3
def dkwX1_setBridges_1 : List UInt8 := [180, 0, 60, 180, 0, 96, 181, 0, 96, 44, 42, 180, 0, 60, 180, 0, 99, 181, 0, 99, 44, 42]
abbrev dktX1_setBridges_1 : List UInt8 := dkwX1_setBridges_1 ++ dktX1_setBridges_2
def dkwX1_setBridges_0 : List UInt8 := [27, 133, 20, 0, 82, 20, 0, 84, 184, 0, 86, 18, 90, 184, 0, 92, 27, 184, 0, 54, 77, 44, 42]
abbrev dktX1_setBridges_0 : List UInt8 := dkwX1_setBridges_0 ++ dktX1_setBridges_1
theorem dksX1_setBridges_0 : cX1_setBridges.data.toList.drop 0 = dktX1_setBridges_0 := by decide +kernel
theorem dksX1_setBridges_1 : cX1_setBridges.data.toList.drop 23 = dktX1_setBridges_1 := dk_seg dksX1_setBridges_0 23 rfl rfl
theorem dksX1_setBridges_2 : cX1_setBridges.data.toList.drop 45 = dktX1_setBridges_2 := dk_seg dksX1_setBridges_1 22 rfl rfl
theorem dksX1_setBridges_3 : cX1_setBridges.data.toList.drop 69 = dktX1_setBridges_3 := dk_seg dksX1_setBridges_2 24 rfl rfl
theorem dX1_setBridges_0 : decode cX1_setBridges 0 = .ok (.iload_n 1, 1) := dk_27 (dk_at dksX1_setBridges_0 0 rfl rfl)
theorem dX1_setBridges_1 : decode cX1_setBridges 1 = .ok (.i2l, 1) := dk_133 (dk_at dksX1_setBridges_0 1 rfl rfl)
theorem dX1_setBridges_2 : decode cX1_setBridges 2 = .ok (.ldc2_w 82, 3) := dk_20 0 82 (dk_at dksX1_setBridges_0 2 rfl rfl)
theorem dX1_setBridges_5 : decode cX1_setBridges 5 = .ok (.ldc2_w 84, 3) := dk_20 0 84 (dk_at dksX1_setBridges_0 5 rfl rfl)
theorem dX1_setBridges_8 : decode cX1_setBridges 8 = .ok (.invokestatic 86, 3) := dk_184 0 86 (dk_at dksX1_setBridges_0 8 rfl rfl)
theorem dX1_setBridges_11 : decode cX1_setBridges 11 = .ok (.ldc 90, 2) := dk_18 90 (dk_at dksX1_setBridges_0 11 rfl rfl)
theorem dX1_setBridges_13 : decode cX1_setBridges 13 = .ok (.invokestatic 92, 3) := dk_184 0 92 (dk_at dksX1_setBridges_0 13 rfl rfl)
theorem dX1_setBridges_16 : decode cX1_setBridges 16 = .ok (.iload_n 1, 1) := dk_27 (dk_at dksX1_setBridges_0 16 rfl rfl)
theorem dX1_setBridges_17 : decode cX1_setBridges 17 = .ok (.invokestatic 54, 3) := dk_184 0 54 (dk_at dksX1_setBridges_0 17 rfl rfl)
theorem dX1_setBridges_20 : decode cX1_setBridges 20 = .ok (.astore_n 2, 1) := dk_77 (dk_at dksX1_setBridges_0 20 rfl rfl)
theorem dX1_setBridges_21 : decode cX1_setBridges 21 = .ok (.aload_n 2, 1) := dk_44 (dk_at dksX1_setBridges_0 21 rfl rfl)
theorem dX1_setBridges_22 : decode cX1_setBridges 22 = .ok (.aload_n 0, 1) := dk_42 (dk_at dksX1_setBridges_0 22 rfl rfl)
theorem dX1_setBridges_23 : decode cX1_setBridges 23 = .ok (.getfield 60, 3) := dk_180 0 60 (dk_at dksX1_setBridges_1 0 rfl rfl)
theorem dX1_setBridges_26 : decode cX1_setBridges 26 = .ok (.getfield 96, 3) := dk_180 0 96 (dk_at dksX1_setBridges_1 3 rfl rfl)
theorem dX1_setBridges_29 : decode cX1_setBridges 29 = .ok (.putfield 96, 3) := dk_181 0 96 (dk_at dksX1_setBridges_1 6 rfl rfl)
theorem dX1_setBridges_32 : decode cX1_setBridges 32 = .ok (.aload_n 2, 1) := dk_44 (dk_at dksX1_setBridges_1 9 rfl rfl)
theorem dX1_setBridges_33 : decode cX1_setBridges 33 = .ok (.aload_n 0, 1) := dk_42 (dk_at dksX1_setBridges_1 10 rfl rfl)
theorem dX1_setBridges_34 : decode cX1_setBridges 34 = .ok (.getfield 60, 3) := dk_180 0 60 (dk_at dksX1_setBridges_1 11 rfl rfl)
theorem dX1_setBridges_37 : decode cX1_setBridges 37 = .ok (.getfield 99, 3) := dk_180 0 99 (dk_at dksX1_setBridges_1 14 rfl rfl)
theorem dX1_setBridges_40 : decode cX1_setBridges 40 = .ok (.putfield 99, 3) := dk_181 0 99 (dk_at dksX1_setBridges_1 17 rfl rfl)
theorem dX1_setBridges_43 : decode cX1_setBridges 43 = .ok (.aload_n 2, 1) := dk_44 (dk_at dksX1_setBridges_1 20 rfl rfl)
theorem dX1_setBridges_44 : decode cX1_setBridges 44 = .ok (.aload_n 0, 1) := dk_42 (dk_at dksX1_setBridges_1 21 rfl rfl)
theorem dX1_setBridges_45 : decode cX1_setBridges 45 = .ok (.getfield 60, 3) := dk_180 0 60 (dk_at dksX1_setBridges_2 0 rfl rfl)
theorem dX1_setBridges_48 : decode cX1_setBridges 48 = .ok (.getfield 102, 3) := dk_180 0 102 (dk_at dksX1_setBridges_2 3 rfl rfl)
theorem dX1_setBridges_51 : decode cX1_setBridges 51 = .ok (.putfield 102, 3) := dk_181 0 102 (dk_at dksX1_setBridges_2 6 rfl rfl)
theorem dX1_setBridges_54 : decode cX1_setBridges 54 = .ok (.aload_n 0, 1) := dk_42 (dk_at dksX1_setBridges_2 9 rfl rfl)
theorem dX1_setBridges_55 : decode cX1_setBridges 55 = .ok (.aload_n 2, 1) := dk_44 (dk_at dksX1_setBridges_2 10 rfl rfl)
theorem dX1_setBridges_56 : decode cX1_setBridges 56 = .ok (.aload_n 0, 1) := dk_42 (dk_at dksX1_setBridges_2 11 rfl rfl)
theorem dX1_setBridges_57 : decode cX1_setBridges 57 = .ok (.getfield 60, 3) := dk_180 0 60 (dk_at dksX1_setBridges_2 12 rfl rfl)
theorem dX1_setBridges_60 : decode cX1_setBridges 60 = .ok (.getfield 105, 3) := dk_180 0 105 (dk_at dksX1_setBridges_2 15 rfl rfl)
theorem dX1_setBridges_63 : decode cX1_setBridges 63 = .ok (.invokevirtual 108, 3) := dk_182 0 108 (dk_at dksX1_setBridges_2 18 rfl rfl)
theorem dX1_setBridges_66 : decode cX1_setBridges 66 = .ok (.invokevirtual 113, 3) := dk_182 0 113 (dk_at dksX1_setBridges_2 21 rfl rfl)
theorem dX1_setBridges_69 : decode cX1_setBridges 69 = .ok (.ireturn, 1) := dk_172 (dk_at dksX1_setBridges_3 0 rfl rfl)
abbrev cX1_setTimes : ByteArray := prog_1_method_10_code
def yX1_setTimes : MethodName := ⟨RX1, "setTimes", "(III)I"⟩
def dkwX1_setTimes_4 : List UInt8 := [180, 0, 99, 182, 0, 113, 172]
abbrev dktX1_setTimes_4 : List UInt8 := dkwX1_setTimes_4 ++ []
def dkwX1_setTimes_3 : List UInt8 := [27, 181, 0, 96, 25, 5, 28, 181, 0, 99, 25, 5, 29, 181, 0, 102, 42, 25, 5, 42, 180, 0, 60]
abbrev dktX1_setTimes_3 : List UInt8 := dkwX1_setTimes_3 ++ dktX1_setTimes_4
def dkwX1_setTimes_2 : List UInt8 := [153, 0, 7, 4, 167, 0, 4, 3, 18, 123, 184, 0, 92, 42, 180, 0, 60, 182, 0, 125, 58, 5, 25, 5]
abbrev dktX1_setTimes_2 : List UInt8 := dkwX1_setTimes_2 ++ dktX1_setTimes_3
def dkwX1_setTimes_1 : List UInt8 := [153, 0, 7, 4, 167, 0, 4, 3, 54, 4, 21, 4, 153, 0, 19, 29, 133, 9, 20, 0, 121, 184, 0, 86]
abbrev dktX1_setTimes_1 : List UInt8 := dkwX1_setTimes_1 ++ dktX1_setTimes_2
def dkwX1_setTimes_0 : List UInt8 := [27, 133, 10, 20, 0, 117, 184, 0, 86, 153, 0, 21, 28, 133, 20, 0, 119, 20, 0, 121, 184, 0, 86]
abbrev dktX1_setTimes_0 : List UInt8 := dkwX1_setTimes_0 ++ dktX1_setTimes_1
theorem dksX1_setTimes_0 : cX1_setTimes.data.toList.drop 0 = dktX1_setTimes_0 := by decide +kernel
theorem dksX1_setTimes_1 : cX1_setTimes.data.toList.drop 23 = dktX1_setTimes_1 := dk_seg dksX1_setTimes_0 23 rfl rfl
theorem dksX1_setTimes_2 : cX1_setTimes.data.toList.drop 47 = dktX1_setTimes_2 := dk_seg dksX1_setTimes_1 24 rfl rfl
theorem dksX1_setTimes_3 : cX1_setTimes.data.toList.drop 71 = dktX1_setTimes_3 := dk_seg dksX1_setTimes_2 24 rfl rfl
theorem dksX1_setTimes_4 : cX1_setTimes.data.toList.drop 94 = dktX1_setTimes_4 := dk_seg dksX1_setTimes_3 23 rfl rfl
theorem dX1_setTimes_0 : decode cX1_setTimes 0 = .ok (.iload_n 1, 1) := dk_27 (dk_at dksX1_setTimes_0 0 rfl rfl)
theorem dX1_setTimes_1 : decode cX1_setTimes 1 = .ok (.i2l, 1) := dk_133 (dk_at dksX1_setTimes_0 1 rfl rfl)
theorem dX1_setTimes_2 : decode cX1_setTimes 2 = .ok (.lconst 1, 1) := dk_10 (dk_at dksX1_setTimes_0 2 rfl rfl)
theorem dX1_setTimes_3 : decode cX1_setTimes 3 = .ok (.ldc2_w 117, 3) := dk_20 0 117 (dk_at dksX1_setTimes_0 3 rfl rfl)
theorem dX1_setTimes_6 : decode cX1_setTimes 6 = .ok (.invokestatic 86, 3) := dk_184 0 86 (dk_at dksX1_setTimes_0 6 rfl rfl)
theorem dX1_setTimes_9 : decode cX1_setTimes 9 = .ok (.ifCond .eq 21, 3) := dk_153 0 21 (dk_at dksX1_setTimes_0 9 rfl rfl)
theorem dX1_setTimes_12 : decode cX1_setTimes 12 = .ok (.iload_n 2, 1) := dk_28 (dk_at dksX1_setTimes_0 12 rfl rfl)
theorem dX1_setTimes_13 : decode cX1_setTimes 13 = .ok (.i2l, 1) := dk_133 (dk_at dksX1_setTimes_0 13 rfl rfl)
theorem dX1_setTimes_14 : decode cX1_setTimes 14 = .ok (.ldc2_w 119, 3) := dk_20 0 119 (dk_at dksX1_setTimes_0 14 rfl rfl)
theorem dX1_setTimes_17 : decode cX1_setTimes 17 = .ok (.ldc2_w 121, 3) := dk_20 0 121 (dk_at dksX1_setTimes_0 17 rfl rfl)
theorem dX1_setTimes_20 : decode cX1_setTimes 20 = .ok (.invokestatic 86, 3) := dk_184 0 86 (dk_at dksX1_setTimes_0 20 rfl rfl)
theorem dX1_setTimes_23 : decode cX1_setTimes 23 = .ok (.ifCond .eq 7, 3) := dk_153 0 7 (dk_at dksX1_setTimes_1 0 rfl rfl)
theorem dX1_setTimes_26 : decode cX1_setTimes 26 = .ok (.iconst 1, 1) := dk_4 (dk_at dksX1_setTimes_1 3 rfl rfl)
theorem dX1_setTimes_27 : decode cX1_setTimes 27 = .ok (.goto 4, 3) := dk_167 0 4 (dk_at dksX1_setTimes_1 4 rfl rfl)
theorem dX1_setTimes_30 : decode cX1_setTimes 30 = .ok (.iconst 0, 1) := dk_3 (dk_at dksX1_setTimes_1 7 rfl rfl)
theorem dX1_setTimes_31 : decode cX1_setTimes 31 = .ok (.istore 4, 2) := dk_54 4 (dk_at dksX1_setTimes_1 8 rfl rfl)
theorem dX1_setTimes_33 : decode cX1_setTimes 33 = .ok (.iload 4, 2) := dk_21 4 (dk_at dksX1_setTimes_1 10 rfl rfl)
theorem dX1_setTimes_35 : decode cX1_setTimes 35 = .ok (.ifCond .eq 19, 3) := dk_153 0 19 (dk_at dksX1_setTimes_1 12 rfl rfl)
theorem dX1_setTimes_38 : decode cX1_setTimes 38 = .ok (.iload_n 3, 1) := dk_29 (dk_at dksX1_setTimes_1 15 rfl rfl)
theorem dX1_setTimes_39 : decode cX1_setTimes 39 = .ok (.i2l, 1) := dk_133 (dk_at dksX1_setTimes_1 16 rfl rfl)
theorem dX1_setTimes_40 : decode cX1_setTimes 40 = .ok (.lconst 0, 1) := dk_9 (dk_at dksX1_setTimes_1 17 rfl rfl)
theorem dX1_setTimes_41 : decode cX1_setTimes 41 = .ok (.ldc2_w 121, 3) := dk_20 0 121 (dk_at dksX1_setTimes_1 18 rfl rfl)
theorem dX1_setTimes_44 : decode cX1_setTimes 44 = .ok (.invokestatic 86, 3) := dk_184 0 86 (dk_at dksX1_setTimes_1 21 rfl rfl)
theorem dX1_setTimes_47 : decode cX1_setTimes 47 = .ok (.ifCond .eq 7, 3) := dk_153 0 7 (dk_at dksX1_setTimes_2 0 rfl rfl)
theorem dX1_setTimes_50 : decode cX1_setTimes 50 = .ok (.iconst 1, 1) := dk_4 (dk_at dksX1_setTimes_2 3 rfl rfl)
theorem dX1_setTimes_51 : decode cX1_setTimes 51 = .ok (.goto 4, 3) := dk_167 0 4 (dk_at dksX1_setTimes_2 4 rfl rfl)
theorem dX1_setTimes_54 : decode cX1_setTimes 54 = .ok (.iconst 0, 1) := dk_3 (dk_at dksX1_setTimes_2 7 rfl rfl)
theorem dX1_setTimes_55 : decode cX1_setTimes 55 = .ok (.ldc 123, 2) := dk_18 123 (dk_at dksX1_setTimes_2 8 rfl rfl)
theorem dX1_setTimes_57 : decode cX1_setTimes 57 = .ok (.invokestatic 92, 3) := dk_184 0 92 (dk_at dksX1_setTimes_2 10 rfl rfl)
theorem dX1_setTimes_60 : decode cX1_setTimes 60 = .ok (.aload_n 0, 1) := dk_42 (dk_at dksX1_setTimes_2 13 rfl rfl)
theorem dX1_setTimes_61 : decode cX1_setTimes 61 = .ok (.getfield 60, 3) := dk_180 0 60 (dk_at dksX1_setTimes_2 14 rfl rfl)
theorem dX1_setTimes_64 : decode cX1_setTimes 64 = .ok (.invokevirtual 125, 3) := dk_182 0 125 (dk_at dksX1_setTimes_2 17 rfl rfl)
theorem dX1_setTimes_67 : decode cX1_setTimes 67 = .ok (.astore 5, 2) := dk_58 5 (dk_at dksX1_setTimes_2 20 rfl rfl)
theorem dX1_setTimes_69 : decode cX1_setTimes 69 = .ok (.aload 5, 2) := dk_25 5 (dk_at dksX1_setTimes_2 22 rfl rfl)
theorem dX1_setTimes_71 : decode cX1_setTimes 71 = .ok (.iload_n 1, 1) := dk_27 (dk_at dksX1_setTimes_3 0 rfl rfl)
theorem dX1_setTimes_72 : decode cX1_setTimes 72 = .ok (.putfield 96, 3) := dk_181 0 96 (dk_at dksX1_setTimes_3 1 rfl rfl)
theorem dX1_setTimes_75 : decode cX1_setTimes 75 = .ok (.aload 5, 2) := dk_25 5 (dk_at dksX1_setTimes_3 4 rfl rfl)
theorem dX1_setTimes_77 : decode cX1_setTimes 77 = .ok (.iload_n 2, 1) := dk_28 (dk_at dksX1_setTimes_3 6 rfl rfl)
theorem dX1_setTimes_78 : decode cX1_setTimes 78 = .ok (.putfield 99, 3) := dk_181 0 99 (dk_at dksX1_setTimes_3 7 rfl rfl)
theorem dX1_setTimes_81 : decode cX1_setTimes 81 = .ok (.aload 5, 2) := dk_25 5 (dk_at dksX1_setTimes_3 10 rfl rfl)
theorem dX1_setTimes_83 : decode cX1_setTimes 83 = .ok (.iload_n 3, 1) := dk_29 (dk_at dksX1_setTimes_3 12 rfl rfl)
theorem dX1_setTimes_84 : decode cX1_setTimes 84 = .ok (.putfield 102, 3) := dk_181 0 102 (dk_at dksX1_setTimes_3 13 rfl rfl)
theorem dX1_setTimes_87 : decode cX1_setTimes 87 = .ok (.aload_n 0, 1) := dk_42 (dk_at dksX1_setTimes_3 16 rfl rfl)
theorem dX1_setTimes_88 : decode cX1_setTimes 88 = .ok (.aload 5, 2) := dk_25 5 (dk_at dksX1_setTimes_3 17 rfl rfl)
theorem dX1_setTimes_90 : decode cX1_setTimes 90 = .ok (.aload_n 0, 1) := dk_42 (dk_at dksX1_setTimes_3 19 rfl rfl)
theorem dX1_setTimes_91 : decode cX1_setTimes 91 = .ok (.getfield 60, 3) := dk_180 0 60 (dk_at dksX1_setTimes_3 20 rfl rfl)
theorem dX1_setTimes_94 : decode cX1_setTimes 94 = .ok (.getfield 99, 3) := dk_180 0 99 (dk_at dksX1_setTimes_4 0 rfl rfl)
theorem dX1_setTimes_97 : decode cX1_setTimes 97 = .ok (.invokevirtual 113, 3) := dk_182 0 113 (dk_at dksX1_setTimes_4 3 rfl rfl)
theorem dX1_setTimes_100 : decode cX1_setTimes 100 = .ok (.ireturn, 1) := dk_172 (dk_at dksX1_setTimes_4 6 rfl rfl)
abbrev cX1_setPriority : ByteArray := prog_1_method_11_code
def yX1_setPriority : MethodName := ⟨RX1, "setPriority", "(II)I"⟩
def dkwX1_setPriority_0 : List UInt8 := [42, 180, 0, 60, 182, 0, 125, 78, 42, 45, 45, 27, 28, 182, 0, 129, 182, 0, 113, 172]
abbrev dktX1_setPriority_0 : List UInt8 := dkwX1_setPriority_0 ++ []
theorem dksX1_setPriority_0 : cX1_setPriority.data.toList.drop 0 = dktX1_setPriority_0 := by decide +kernel
theorem dX1_setPriority_0 : decode cX1_setPriority 0 = .ok (.aload_n 0, 1) := dk_42 (dk_at dksX1_setPriority_0 0 rfl rfl)
theorem dX1_setPriority_1 : decode cX1_setPriority 1 = .ok (.getfield 60, 3) := dk_180 0 60 (dk_at dksX1_setPriority_0 1 rfl rfl)
theorem dX1_setPriority_4 : decode cX1_setPriority 4 = .ok (.invokevirtual 125, 3) := dk_182 0 125 (dk_at dksX1_setPriority_0 4 rfl rfl)
theorem dX1_setPriority_7 : decode cX1_setPriority 7 = .ok (.astore_n 3, 1) := dk_78 (dk_at dksX1_setPriority_0 7 rfl rfl)
theorem dX1_setPriority_8 : decode cX1_setPriority 8 = .ok (.aload_n 0, 1) := dk_42 (dk_at dksX1_setPriority_0 8 rfl rfl)
theorem dX1_setPriority_9 : decode cX1_setPriority 9 = .ok (.aload_n 3, 1) := dk_45 (dk_at dksX1_setPriority_0 9 rfl rfl)
theorem dX1_setPriority_10 : decode cX1_setPriority 10 = .ok (.aload_n 3, 1) := dk_45 (dk_at dksX1_setPriority_0 10 rfl rfl)
theorem dX1_setPriority_11 : decode cX1_setPriority 11 = .ok (.iload_n 1, 1) := dk_27 (dk_at dksX1_setPriority_0 11 rfl rfl)
theorem dX1_setPriority_12 : decode cX1_setPriority 12 = .ok (.iload_n 2, 1) := dk_28 (dk_at dksX1_setPriority_0 12 rfl rfl)
theorem dX1_setPriority_13 : decode cX1_setPriority 13 = .ok (.invokevirtual 129, 3) := dk_182 0 129 (dk_at dksX1_setPriority_0 13 rfl rfl)
theorem dX1_setPriority_16 : decode cX1_setPriority 16 = .ok (.invokevirtual 113, 3) := dk_182 0 113 (dk_at dksX1_setPriority_0 16 rfl rfl)
theorem dX1_setPriority_19 : decode cX1_setPriority 19 = .ok (.ireturn, 1) := dk_172 (dk_at dksX1_setPriority_0 19 rfl rfl)
abbrev cX1_addLink : ByteArray := prog_1_method_12_code
def yX1_addLink : MethodName := ⟨RX1, "addLink", "(III)I"⟩
def dkwX1_addLink_0 : List UInt8 := [42, 180, 0, 60, 182, 0, 125, 58, 4, 42, 25, 4, 25, 4, 27, 28, 29, 182, 0, 133, 182, 0, 113, 172]
abbrev dktX1_addLink_0 : List UInt8 := dkwX1_addLink_0 ++ []
theorem dksX1_addLink_0 : cX1_addLink.data.toList.drop 0 = dktX1_addLink_0 := by decide +kernel
theorem dX1_addLink_0 : decode cX1_addLink 0 = .ok (.aload_n 0, 1) := dk_42 (dk_at dksX1_addLink_0 0 rfl rfl)
theorem dX1_addLink_1 : decode cX1_addLink 1 = .ok (.getfield 60, 3) := dk_180 0 60 (dk_at dksX1_addLink_0 1 rfl rfl)
theorem dX1_addLink_4 : decode cX1_addLink 4 = .ok (.invokevirtual 125, 3) := dk_182 0 125 (dk_at dksX1_addLink_0 4 rfl rfl)
theorem dX1_addLink_7 : decode cX1_addLink 7 = .ok (.astore 4, 2) := dk_58 4 (dk_at dksX1_addLink_0 7 rfl rfl)
theorem dX1_addLink_9 : decode cX1_addLink 9 = .ok (.aload_n 0, 1) := dk_42 (dk_at dksX1_addLink_0 9 rfl rfl)
theorem dX1_addLink_10 : decode cX1_addLink 10 = .ok (.aload 4, 2) := dk_25 4 (dk_at dksX1_addLink_0 10 rfl rfl)
theorem dX1_addLink_12 : decode cX1_addLink 12 = .ok (.aload 4, 2) := dk_25 4 (dk_at dksX1_addLink_0 12 rfl rfl)
theorem dX1_addLink_14 : decode cX1_addLink 14 = .ok (.iload_n 1, 1) := dk_27 (dk_at dksX1_addLink_0 14 rfl rfl)
theorem dX1_addLink_15 : decode cX1_addLink 15 = .ok (.iload_n 2, 1) := dk_28 (dk_at dksX1_addLink_0 15 rfl rfl)
theorem dX1_addLink_16 : decode cX1_addLink 16 = .ok (.iload_n 3, 1) := dk_29 (dk_at dksX1_addLink_0 16 rfl rfl)
theorem dX1_addLink_17 : decode cX1_addLink 17 = .ok (.invokevirtual 133, 3) := dk_182 0 133 (dk_at dksX1_addLink_0 17 rfl rfl)
theorem dX1_addLink_20 : decode cX1_addLink 20 = .ok (.invokevirtual 113, 3) := dk_182 0 113 (dk_at dksX1_addLink_0 20 rfl rfl)
theorem dX1_addLink_23 : decode cX1_addLink 23 = .ok (.ireturn, 1) := dk_172 (dk_at dksX1_addLink_0 23 rfl rfl)
abbrev cX1_fail : ByteArray := prog_1_method_13_code
def yX1_fail : MethodName := ⟨RX1, "fail", "(I)I"⟩
def dkwX1_fail_0 : List UInt8 := [42, 180, 0, 60, 182, 0, 125, 77, 42, 44, 44, 27, 182, 0, 137, 182, 0, 113, 172]
abbrev dktX1_fail_0 : List UInt8 := dkwX1_fail_0 ++ []
theorem dksX1_fail_0 : cX1_fail.data.toList.drop 0 = dktX1_fail_0 := by decide +kernel
theorem dX1_fail_0 : decode cX1_fail 0 = .ok (.aload_n 0, 1) := dk_42 (dk_at dksX1_fail_0 0 rfl rfl)
theorem dX1_fail_1 : decode cX1_fail 1 = .ok (.getfield 60, 3) := dk_180 0 60 (dk_at dksX1_fail_0 1 rfl rfl)
theorem dX1_fail_4 : decode cX1_fail 4 = .ok (.invokevirtual 125, 3) := dk_182 0 125 (dk_at dksX1_fail_0 4 rfl rfl)
theorem dX1_fail_7 : decode cX1_fail 7 = .ok (.astore_n 2, 1) := dk_77 (dk_at dksX1_fail_0 7 rfl rfl)
theorem dX1_fail_8 : decode cX1_fail 8 = .ok (.aload_n 0, 1) := dk_42 (dk_at dksX1_fail_0 8 rfl rfl)
theorem dX1_fail_9 : decode cX1_fail 9 = .ok (.aload_n 2, 1) := dk_44 (dk_at dksX1_fail_0 9 rfl rfl)
theorem dX1_fail_10 : decode cX1_fail 10 = .ok (.aload_n 2, 1) := dk_44 (dk_at dksX1_fail_0 10 rfl rfl)
theorem dX1_fail_11 : decode cX1_fail 11 = .ok (.iload_n 1, 1) := dk_27 (dk_at dksX1_fail_0 11 rfl rfl)
theorem dX1_fail_12 : decode cX1_fail 12 = .ok (.invokevirtual 137, 3) := dk_182 0 137 (dk_at dksX1_fail_0 12 rfl rfl)
theorem dX1_fail_15 : decode cX1_fail 15 = .ok (.invokevirtual 113, 3) := dk_182 0 113 (dk_at dksX1_fail_0 15 rfl rfl)
theorem dX1_fail_18 : decode cX1_fail 18 = .ok (.ireturn, 1) := dk_172 (dk_at dksX1_fail_0 18 rfl rfl)
abbrev cX1_fix : ByteArray := prog_1_method_14_code
def yX1_fix : MethodName := ⟨RX1, "fix", "(I)I"⟩
def dkwX1_fix_0 : List UInt8 := [42, 180, 0, 60, 182, 0, 125, 77, 42, 44, 44, 27, 182, 0, 140, 182, 0, 113, 172]
abbrev dktX1_fix_0 : List UInt8 := dkwX1_fix_0 ++ []
theorem dksX1_fix_0 : cX1_fix.data.toList.drop 0 = dktX1_fix_0 := by decide +kernel
theorem dX1_fix_0 : decode cX1_fix 0 = .ok (.aload_n 0, 1) := dk_42 (dk_at dksX1_fix_0 0 rfl rfl)
theorem dX1_fix_1 : decode cX1_fix 1 = .ok (.getfield 60, 3) := dk_180 0 60 (dk_at dksX1_fix_0 1 rfl rfl)
theorem dX1_fix_4 : decode cX1_fix 4 = .ok (.invokevirtual 125, 3) := dk_182 0 125 (dk_at dksX1_fix_0 4 rfl rfl)
theorem dX1_fix_7 : decode cX1_fix 7 = .ok (.astore_n 2, 1) := dk_77 (dk_at dksX1_fix_0 7 rfl rfl)
theorem dX1_fix_8 : decode cX1_fix 8 = .ok (.aload_n 0, 1) := dk_42 (dk_at dksX1_fix_0 8 rfl rfl)
theorem dX1_fix_9 : decode cX1_fix 9 = .ok (.aload_n 2, 1) := dk_44 (dk_at dksX1_fix_0 9 rfl rfl)
theorem dX1_fix_10 : decode cX1_fix 10 = .ok (.aload_n 2, 1) := dk_44 (dk_at dksX1_fix_0 10 rfl rfl)
theorem dX1_fix_11 : decode cX1_fix 11 = .ok (.iload_n 1, 1) := dk_27 (dk_at dksX1_fix_0 11 rfl rfl)
theorem dX1_fix_12 : decode cX1_fix 12 = .ok (.invokevirtual 140, 3) := dk_182 0 140 (dk_at dksX1_fix_0 12 rfl rfl)
theorem dX1_fix_15 : decode cX1_fix 15 = .ok (.invokevirtual 113, 3) := dk_182 0 113 (dk_at dksX1_fix_0 15 rfl rfl)
theorem dX1_fix_18 : decode cX1_fix 18 = .ok (.ireturn, 1) := dk_172 (dk_at dksX1_fix_0 18 rfl rfl)
abbrev cX1_moveHost : ByteArray := prog_1_method_15_code
def yX1_moveHost : MethodName := ⟨RX1, "moveHost", "(II)I"⟩
def dkwX1_moveHost_0 : List UInt8 := [42, 180, 0, 60, 182, 0, 125, 78, 42, 45, 45, 27, 28, 182, 0, 142, 182, 0, 113, 172]
abbrev dktX1_moveHost_0 : List UInt8 := dkwX1_moveHost_0 ++ []
theorem dksX1_moveHost_0 : cX1_moveHost.data.toList.drop 0 = dktX1_moveHost_0 := by decide +kernel
theorem dX1_moveHost_0 : decode cX1_moveHost 0 = .ok (.aload_n 0, 1) := dk_42 (dk_at dksX1_moveHost_0 0 rfl rfl)
theorem dX1_moveHost_1 : decode cX1_moveHost 1 = .ok (.getfield 60, 3) := dk_180 0 60 (dk_at dksX1_moveHost_0 1 rfl rfl)
theorem dX1_moveHost_4 : decode cX1_moveHost 4 = .ok (.invokevirtual 125, 3) := dk_182 0 125 (dk_at dksX1_moveHost_0 4 rfl rfl)
theorem dX1_moveHost_7 : decode cX1_moveHost 7 = .ok (.astore_n 3, 1) := dk_78 (dk_at dksX1_moveHost_0 7 rfl rfl)
theorem dX1_moveHost_8 : decode cX1_moveHost 8 = .ok (.aload_n 0, 1) := dk_42 (dk_at dksX1_moveHost_0 8 rfl rfl)
theorem dX1_moveHost_9 : decode cX1_moveHost 9 = .ok (.aload_n 3, 1) := dk_45 (dk_at dksX1_moveHost_0 9 rfl rfl)
theorem dX1_moveHost_10 : decode cX1_moveHost 10 = .ok (.aload_n 3, 1) := dk_45 (dk_at dksX1_moveHost_0 10 rfl rfl)
theorem dX1_moveHost_11 : decode cX1_moveHost 11 = .ok (.iload_n 1, 1) := dk_27 (dk_at dksX1_moveHost_0 11 rfl rfl)
theorem dX1_moveHost_12 : decode cX1_moveHost 12 = .ok (.iload_n 2, 1) := dk_28 (dk_at dksX1_moveHost_0 12 rfl rfl)
theorem dX1_moveHost_13 : decode cX1_moveHost 13 = .ok (.invokevirtual 142, 3) := dk_182 0 142 (dk_at dksX1_moveHost_0 13 rfl rfl)
theorem dX1_moveHost_16 : decode cX1_moveHost 16 = .ok (.invokevirtual 113, 3) := dk_182 0 113 (dk_at dksX1_moveHost_0 16 rfl rfl)
theorem dX1_moveHost_19 : decode cX1_moveHost 19 = .ok (.ireturn, 1) := dk_172 (dk_at dksX1_moveHost_0 19 rfl rfl)
abbrev cX1_bid : ByteArray := prog_1_method_16_code
def yX1_bid : MethodName := ⟨RX1, "bid", "(III)I"⟩
def dkwX1_bid_0 : List UInt8 := [42, 180, 0, 60, 182, 0, 125, 58, 4, 42, 25, 4, 25, 4, 27, 28, 29, 182, 0, 145, 182, 0, 113, 172]
abbrev dktX1_bid_0 : List UInt8 := dkwX1_bid_0 ++ []
theorem dksX1_bid_0 : cX1_bid.data.toList.drop 0 = dktX1_bid_0 := by decide +kernel
theorem dX1_bid_0 : decode cX1_bid 0 = .ok (.aload_n 0, 1) := dk_42 (dk_at dksX1_bid_0 0 rfl rfl)
theorem dX1_bid_1 : decode cX1_bid 1 = .ok (.getfield 60, 3) := dk_180 0 60 (dk_at dksX1_bid_0 1 rfl rfl)
theorem dX1_bid_4 : decode cX1_bid 4 = .ok (.invokevirtual 125, 3) := dk_182 0 125 (dk_at dksX1_bid_0 4 rfl rfl)
theorem dX1_bid_7 : decode cX1_bid 7 = .ok (.astore 4, 2) := dk_58 4 (dk_at dksX1_bid_0 7 rfl rfl)
theorem dX1_bid_9 : decode cX1_bid 9 = .ok (.aload_n 0, 1) := dk_42 (dk_at dksX1_bid_0 9 rfl rfl)
theorem dX1_bid_10 : decode cX1_bid 10 = .ok (.aload 4, 2) := dk_25 4 (dk_at dksX1_bid_0 10 rfl rfl)
theorem dX1_bid_12 : decode cX1_bid 12 = .ok (.aload 4, 2) := dk_25 4 (dk_at dksX1_bid_0 12 rfl rfl)
theorem dX1_bid_14 : decode cX1_bid 14 = .ok (.iload_n 1, 1) := dk_27 (dk_at dksX1_bid_0 14 rfl rfl)
theorem dX1_bid_15 : decode cX1_bid 15 = .ok (.iload_n 2, 1) := dk_28 (dk_at dksX1_bid_0 15 rfl rfl)
theorem dX1_bid_16 : decode cX1_bid 16 = .ok (.iload_n 3, 1) := dk_29 (dk_at dksX1_bid_0 16 rfl rfl)
theorem dX1_bid_17 : decode cX1_bid 17 = .ok (.invokevirtual 145, 3) := dk_182 0 145 (dk_at dksX1_bid_0 17 rfl rfl)
theorem dX1_bid_20 : decode cX1_bid 20 = .ok (.invokevirtual 113, 3) := dk_182 0 113 (dk_at dksX1_bid_0 20 rfl rfl)
theorem dX1_bid_23 : decode cX1_bid 23 = .ok (.ireturn, 1) := dk_172 (dk_at dksX1_bid_0 23 rfl rfl)
abbrev cX1_grant : ByteArray := prog_1_method_18_code
def yX1_grant : MethodName := ⟨RX1, "grant", "(II)I"⟩
def dkwX1_grant_3 : List UInt8 := [46, 182, 0, 113, 172]
abbrev dktX1_grant_3 : List UInt8 := dkwX1_grant_3 ++ []
def dkwX1_grant_2 : List UInt8 := [180, 0, 60, 182, 0, 125, 78, 45, 180, 0, 162, 27, 92, 46, 28, 96, 79, 42, 45, 45, 180, 0, 162, 27]
abbrev dktX1_grant_2 : List UInt8 := dkwX1_grant_2 ++ dktX1_grant_3
def dkwX1_grant_1 : List UInt8 := [180, 0, 162, 27, 46, 28, 96, 18, 165, 163, 0, 7, 4, 167, 0, 4, 3, 18, 166, 184, 0, 168, 42]
abbrev dktX1_grant_1 : List UInt8 := dkwX1_grant_1 ++ dktX1_grant_2
def dkwX1_grant_0 : List UInt8 := [27, 184, 0, 154, 28, 133, 9, 20, 0, 158, 184, 0, 86, 18, 160, 184, 0, 92, 42, 180, 0, 60]
abbrev dktX1_grant_0 : List UInt8 := dkwX1_grant_0 ++ dktX1_grant_1
theorem dksX1_grant_0 : cX1_grant.data.toList.drop 0 = dktX1_grant_0 := by decide +kernel
theorem dksX1_grant_1 : cX1_grant.data.toList.drop 22 = dktX1_grant_1 := dk_seg dksX1_grant_0 22 rfl rfl
theorem dksX1_grant_2 : cX1_grant.data.toList.drop 45 = dktX1_grant_2 := dk_seg dksX1_grant_1 23 rfl rfl
theorem dksX1_grant_3 : cX1_grant.data.toList.drop 69 = dktX1_grant_3 := dk_seg dksX1_grant_2 24 rfl rfl
theorem dX1_grant_0 : decode cX1_grant 0 = .ok (.iload_n 1, 1) := dk_27 (dk_at dksX1_grant_0 0 rfl rfl)
theorem dX1_grant_1 : decode cX1_grant 1 = .ok (.invokestatic 154, 3) := dk_184 0 154 (dk_at dksX1_grant_0 1 rfl rfl)
theorem dX1_grant_4 : decode cX1_grant 4 = .ok (.iload_n 2, 1) := dk_28 (dk_at dksX1_grant_0 4 rfl rfl)
theorem dX1_grant_5 : decode cX1_grant 5 = .ok (.i2l, 1) := dk_133 (dk_at dksX1_grant_0 5 rfl rfl)
theorem dX1_grant_6 : decode cX1_grant 6 = .ok (.lconst 0, 1) := dk_9 (dk_at dksX1_grant_0 6 rfl rfl)
theorem dX1_grant_7 : decode cX1_grant 7 = .ok (.ldc2_w 158, 3) := dk_20 0 158 (dk_at dksX1_grant_0 7 rfl rfl)
theorem dX1_grant_10 : decode cX1_grant 10 = .ok (.invokestatic 86, 3) := dk_184 0 86 (dk_at dksX1_grant_0 10 rfl rfl)
theorem dX1_grant_13 : decode cX1_grant 13 = .ok (.ldc 160, 2) := dk_18 160 (dk_at dksX1_grant_0 13 rfl rfl)
theorem dX1_grant_15 : decode cX1_grant 15 = .ok (.invokestatic 92, 3) := dk_184 0 92 (dk_at dksX1_grant_0 15 rfl rfl)
theorem dX1_grant_18 : decode cX1_grant 18 = .ok (.aload_n 0, 1) := dk_42 (dk_at dksX1_grant_0 18 rfl rfl)
theorem dX1_grant_19 : decode cX1_grant 19 = .ok (.getfield 60, 3) := dk_180 0 60 (dk_at dksX1_grant_0 19 rfl rfl)
theorem dX1_grant_22 : decode cX1_grant 22 = .ok (.getfield 162, 3) := dk_180 0 162 (dk_at dksX1_grant_1 0 rfl rfl)
theorem dX1_grant_25 : decode cX1_grant 25 = .ok (.iload_n 1, 1) := dk_27 (dk_at dksX1_grant_1 3 rfl rfl)
theorem dX1_grant_26 : decode cX1_grant 26 = .ok (.iaload, 1) := dk_46 (dk_at dksX1_grant_1 4 rfl rfl)
theorem dX1_grant_27 : decode cX1_grant 27 = .ok (.iload_n 2, 1) := dk_28 (dk_at dksX1_grant_1 5 rfl rfl)
theorem dX1_grant_28 : decode cX1_grant 28 = .ok (.iadd, 1) := dk_96 (dk_at dksX1_grant_1 6 rfl rfl)
theorem dX1_grant_29 : decode cX1_grant 29 = .ok (.ldc 165, 2) := dk_18 165 (dk_at dksX1_grant_1 7 rfl rfl)
theorem dX1_grant_31 : decode cX1_grant 31 = .ok (.if_icmp .gt 7, 3) := dk_163 0 7 (dk_at dksX1_grant_1 9 rfl rfl)
theorem dX1_grant_34 : decode cX1_grant 34 = .ok (.iconst 1, 1) := dk_4 (dk_at dksX1_grant_1 12 rfl rfl)
theorem dX1_grant_35 : decode cX1_grant 35 = .ok (.goto 4, 3) := dk_167 0 4 (dk_at dksX1_grant_1 13 rfl rfl)
theorem dX1_grant_38 : decode cX1_grant 38 = .ok (.iconst 0, 1) := dk_3 (dk_at dksX1_grant_1 16 rfl rfl)
theorem dX1_grant_39 : decode cX1_grant 39 = .ok (.ldc 166, 2) := dk_18 166 (dk_at dksX1_grant_1 17 rfl rfl)
theorem dX1_grant_41 : decode cX1_grant 41 = .ok (.invokestatic 168, 3) := dk_184 0 168 (dk_at dksX1_grant_1 19 rfl rfl)
theorem dX1_grant_44 : decode cX1_grant 44 = .ok (.aload_n 0, 1) := dk_42 (dk_at dksX1_grant_1 22 rfl rfl)
theorem dX1_grant_45 : decode cX1_grant 45 = .ok (.getfield 60, 3) := dk_180 0 60 (dk_at dksX1_grant_2 0 rfl rfl)
theorem dX1_grant_48 : decode cX1_grant 48 = .ok (.invokevirtual 125, 3) := dk_182 0 125 (dk_at dksX1_grant_2 3 rfl rfl)
theorem dX1_grant_51 : decode cX1_grant 51 = .ok (.astore_n 3, 1) := dk_78 (dk_at dksX1_grant_2 6 rfl rfl)
theorem dX1_grant_52 : decode cX1_grant 52 = .ok (.aload_n 3, 1) := dk_45 (dk_at dksX1_grant_2 7 rfl rfl)
theorem dX1_grant_53 : decode cX1_grant 53 = .ok (.getfield 162, 3) := dk_180 0 162 (dk_at dksX1_grant_2 8 rfl rfl)
theorem dX1_grant_56 : decode cX1_grant 56 = .ok (.iload_n 1, 1) := dk_27 (dk_at dksX1_grant_2 11 rfl rfl)
theorem dX1_grant_57 : decode cX1_grant 57 = .ok (.dup2, 1) := dk_92 (dk_at dksX1_grant_2 12 rfl rfl)
theorem dX1_grant_58 : decode cX1_grant 58 = .ok (.iaload, 1) := dk_46 (dk_at dksX1_grant_2 13 rfl rfl)
theorem dX1_grant_59 : decode cX1_grant 59 = .ok (.iload_n 2, 1) := dk_28 (dk_at dksX1_grant_2 14 rfl rfl)
theorem dX1_grant_60 : decode cX1_grant 60 = .ok (.iadd, 1) := dk_96 (dk_at dksX1_grant_2 15 rfl rfl)
theorem dX1_grant_61 : decode cX1_grant 61 = .ok (.iastore, 1) := dk_79 (dk_at dksX1_grant_2 16 rfl rfl)
theorem dX1_grant_62 : decode cX1_grant 62 = .ok (.aload_n 0, 1) := dk_42 (dk_at dksX1_grant_2 17 rfl rfl)
theorem dX1_grant_63 : decode cX1_grant 63 = .ok (.aload_n 3, 1) := dk_45 (dk_at dksX1_grant_2 18 rfl rfl)
theorem dX1_grant_64 : decode cX1_grant 64 = .ok (.aload_n 3, 1) := dk_45 (dk_at dksX1_grant_2 19 rfl rfl)
theorem dX1_grant_65 : decode cX1_grant 65 = .ok (.getfield 162, 3) := dk_180 0 162 (dk_at dksX1_grant_2 20 rfl rfl)
theorem dX1_grant_68 : decode cX1_grant 68 = .ok (.iload_n 1, 1) := dk_27 (dk_at dksX1_grant_2 23 rfl rfl)
theorem dX1_grant_69 : decode cX1_grant 69 = .ok (.iaload, 1) := dk_46 (dk_at dksX1_grant_3 0 rfl rfl)
theorem dX1_grant_70 : decode cX1_grant 70 = .ok (.invokevirtual 113, 3) := dk_182 0 113 (dk_at dksX1_grant_3 1 rfl rfl)
theorem dX1_grant_73 : decode cX1_grant 73 = .ok (.ireturn, 1) := dk_172 (dk_at dksX1_grant_3 4 rfl rfl)
abbrev cX1_requireTenant : ByteArray := prog_1_method_17_code
def yX1_requireTenant : MethodName := ⟨RX1, "requireTenant", "(I)V"⟩
def dkwX1_requireTenant_0 : List UInt8 := [26, 133, 9, 20, 0, 147, 184, 0, 86, 18, 149, 184, 0, 151, 177]
abbrev dktX1_requireTenant_0 : List UInt8 := dkwX1_requireTenant_0 ++ []
theorem dksX1_requireTenant_0 : cX1_requireTenant.data.toList.drop 0 = dktX1_requireTenant_0 := by decide +kernel
theorem dX1_requireTenant_0 : decode cX1_requireTenant 0 = .ok (.iload_n 0, 1) := dk_26 (dk_at dksX1_requireTenant_0 0 rfl rfl)
theorem dX1_requireTenant_1 : decode cX1_requireTenant 1 = .ok (.i2l, 1) := dk_133 (dk_at dksX1_requireTenant_0 1 rfl rfl)
theorem dX1_requireTenant_2 : decode cX1_requireTenant 2 = .ok (.lconst 0, 1) := dk_9 (dk_at dksX1_requireTenant_0 2 rfl rfl)
theorem dX1_requireTenant_3 : decode cX1_requireTenant 3 = .ok (.ldc2_w 147, 3) := dk_20 0 147 (dk_at dksX1_requireTenant_0 3 rfl rfl)
theorem dX1_requireTenant_6 : decode cX1_requireTenant 6 = .ok (.invokestatic 86, 3) := dk_184 0 86 (dk_at dksX1_requireTenant_0 6 rfl rfl)
theorem dX1_requireTenant_9 : decode cX1_requireTenant 9 = .ok (.ldc 149, 2) := dk_18 149 (dk_at dksX1_requireTenant_0 9 rfl rfl)
theorem dX1_requireTenant_11 : decode cX1_requireTenant 11 = .ok (.invokestatic 151, 3) := dk_184 0 151 (dk_at dksX1_requireTenant_0 11 rfl rfl)
theorem dX1_requireTenant_14 : decode cX1_requireTenant 14 = .ok (.return_, 1) := dk_177 (dk_at dksX1_requireTenant_0 14 rfl rfl)
abbrev cX1_tick : ByteArray := prog_1_method_19_code
def yX1_tick : MethodName := ⟨RX1, "tick", "(I)I"⟩
def dkwX1_tick_0 : List UInt8 := [42, 180, 0, 60, 182, 0, 125, 77, 42, 44, 44, 27, 182, 0, 171, 182, 0, 113, 172]
abbrev dktX1_tick_0 : List UInt8 := dkwX1_tick_0 ++ []
theorem dksX1_tick_0 : cX1_tick.data.toList.drop 0 = dktX1_tick_0 := by decide +kernel
theorem dX1_tick_0 : decode cX1_tick 0 = .ok (.aload_n 0, 1) := dk_42 (dk_at dksX1_tick_0 0 rfl rfl)
theorem dX1_tick_1 : decode cX1_tick 1 = .ok (.getfield 60, 3) := dk_180 0 60 (dk_at dksX1_tick_0 1 rfl rfl)
theorem dX1_tick_4 : decode cX1_tick 4 = .ok (.invokevirtual 125, 3) := dk_182 0 125 (dk_at dksX1_tick_0 4 rfl rfl)
theorem dX1_tick_7 : decode cX1_tick 7 = .ok (.astore_n 2, 1) := dk_77 (dk_at dksX1_tick_0 7 rfl rfl)
theorem dX1_tick_8 : decode cX1_tick 8 = .ok (.aload_n 0, 1) := dk_42 (dk_at dksX1_tick_0 8 rfl rfl)
theorem dX1_tick_9 : decode cX1_tick 9 = .ok (.aload_n 2, 1) := dk_44 (dk_at dksX1_tick_0 9 rfl rfl)
theorem dX1_tick_10 : decode cX1_tick 10 = .ok (.aload_n 2, 1) := dk_44 (dk_at dksX1_tick_0 10 rfl rfl)
theorem dX1_tick_11 : decode cX1_tick 11 = .ok (.iload_n 1, 1) := dk_27 (dk_at dksX1_tick_0 11 rfl rfl)
theorem dX1_tick_12 : decode cX1_tick 12 = .ok (.invokevirtual 171, 3) := dk_182 0 171 (dk_at dksX1_tick_0 12 rfl rfl)
theorem dX1_tick_15 : decode cX1_tick 15 = .ok (.invokevirtual 113, 3) := dk_182 0 113 (dk_at dksX1_tick_0 15 rfl rfl)
theorem dX1_tick_18 : decode cX1_tick 18 = .ok (.ireturn, 1) := dk_172 (dk_at dksX1_tick_0 18 rfl rfl)
abbrev cX1_send : ByteArray := prog_1_method_21_code
def yX1_send : MethodName := ⟨RX1, "send", "(II)I"⟩
def dkwX1_send_0 : List UInt8 := [42, 180, 0, 60, 182, 0, 125, 78, 42, 45, 45, 27, 28, 182, 0, 176, 182, 0, 113, 172]
abbrev dktX1_send_0 : List UInt8 := dkwX1_send_0 ++ []
theorem dksX1_send_0 : cX1_send.data.toList.drop 0 = dktX1_send_0 := by decide +kernel
theorem dX1_send_0 : decode cX1_send 0 = .ok (.aload_n 0, 1) := dk_42 (dk_at dksX1_send_0 0 rfl rfl)
theorem dX1_send_1 : decode cX1_send 1 = .ok (.getfield 60, 3) := dk_180 0 60 (dk_at dksX1_send_0 1 rfl rfl)
theorem dX1_send_4 : decode cX1_send 4 = .ok (.invokevirtual 125, 3) := dk_182 0 125 (dk_at dksX1_send_0 4 rfl rfl)
theorem dX1_send_7 : decode cX1_send 7 = .ok (.astore_n 3, 1) := dk_78 (dk_at dksX1_send_0 7 rfl rfl)
theorem dX1_send_8 : decode cX1_send 8 = .ok (.aload_n 0, 1) := dk_42 (dk_at dksX1_send_0 8 rfl rfl)
theorem dX1_send_9 : decode cX1_send 9 = .ok (.aload_n 3, 1) := dk_45 (dk_at dksX1_send_0 9 rfl rfl)
theorem dX1_send_10 : decode cX1_send 10 = .ok (.aload_n 3, 1) := dk_45 (dk_at dksX1_send_0 10 rfl rfl)
theorem dX1_send_11 : decode cX1_send 11 = .ok (.iload_n 1, 1) := dk_27 (dk_at dksX1_send_0 11 rfl rfl)
theorem dX1_send_12 : decode cX1_send 12 = .ok (.iload_n 2, 1) := dk_28 (dk_at dksX1_send_0 12 rfl rfl)
theorem dX1_send_13 : decode cX1_send 13 = .ok (.invokevirtual 176, 3) := dk_182 0 176 (dk_at dksX1_send_0 13 rfl rfl)
theorem dX1_send_16 : decode cX1_send 16 = .ok (.invokevirtual 113, 3) := dk_182 0 113 (dk_at dksX1_send_0 16 rfl rfl)
theorem dX1_send_19 : decode cX1_send 19 = .ok (.ireturn, 1) := dk_172 (dk_at dksX1_send_0 19 rfl rfl)
abbrev cX1_bridge : ByteArray := prog_1_method_22_code
def yX1_bridge : MethodName := ⟨RX1, "bridge", "(II)I"⟩
def dkwX1_bridge_1 : List UInt8 := [28, 182, 0, 185, 172]
abbrev dktX1_bridge_1 : List UInt8 := dkwX1_bridge_1 ++ []
def dkwX1_bridge_0 : List UInt8 := [42, 180, 0, 60, 27, 182, 0, 179, 78, 28, 133, 9, 20, 0, 119, 184, 0, 86, 18, 183, 184, 0, 92, 45]
abbrev dktX1_bridge_0 : List UInt8 := dkwX1_bridge_0 ++ dktX1_bridge_1
theorem dksX1_bridge_0 : cX1_bridge.data.toList.drop 0 = dktX1_bridge_0 := by decide +kernel
theorem dksX1_bridge_1 : cX1_bridge.data.toList.drop 24 = dktX1_bridge_1 := dk_seg dksX1_bridge_0 24 rfl rfl
theorem dX1_bridge_0 : decode cX1_bridge 0 = .ok (.aload_n 0, 1) := dk_42 (dk_at dksX1_bridge_0 0 rfl rfl)
theorem dX1_bridge_1 : decode cX1_bridge 1 = .ok (.getfield 60, 3) := dk_180 0 60 (dk_at dksX1_bridge_0 1 rfl rfl)
theorem dX1_bridge_4 : decode cX1_bridge 4 = .ok (.iload_n 1, 1) := dk_27 (dk_at dksX1_bridge_0 4 rfl rfl)
theorem dX1_bridge_5 : decode cX1_bridge 5 = .ok (.invokevirtual 179, 3) := dk_182 0 179 (dk_at dksX1_bridge_0 5 rfl rfl)
theorem dX1_bridge_8 : decode cX1_bridge 8 = .ok (.astore_n 3, 1) := dk_78 (dk_at dksX1_bridge_0 8 rfl rfl)
theorem dX1_bridge_9 : decode cX1_bridge 9 = .ok (.iload_n 2, 1) := dk_28 (dk_at dksX1_bridge_0 9 rfl rfl)
theorem dX1_bridge_10 : decode cX1_bridge 10 = .ok (.i2l, 1) := dk_133 (dk_at dksX1_bridge_0 10 rfl rfl)
theorem dX1_bridge_11 : decode cX1_bridge 11 = .ok (.lconst 0, 1) := dk_9 (dk_at dksX1_bridge_0 11 rfl rfl)
theorem dX1_bridge_12 : decode cX1_bridge 12 = .ok (.ldc2_w 119, 3) := dk_20 0 119 (dk_at dksX1_bridge_0 12 rfl rfl)
theorem dX1_bridge_15 : decode cX1_bridge 15 = .ok (.invokestatic 86, 3) := dk_184 0 86 (dk_at dksX1_bridge_0 15 rfl rfl)
theorem dX1_bridge_18 : decode cX1_bridge 18 = .ok (.ldc 183, 2) := dk_18 183 (dk_at dksX1_bridge_0 18 rfl rfl)
theorem dX1_bridge_20 : decode cX1_bridge 20 = .ok (.invokestatic 92, 3) := dk_184 0 92 (dk_at dksX1_bridge_0 20 rfl rfl)
theorem dX1_bridge_23 : decode cX1_bridge 23 = .ok (.aload_n 3, 1) := dk_45 (dk_at dksX1_bridge_0 23 rfl rfl)
theorem dX1_bridge_24 : decode cX1_bridge 24 = .ok (.iload_n 2, 1) := dk_28 (dk_at dksX1_bridge_1 0 rfl rfl)
theorem dX1_bridge_25 : decode cX1_bridge 25 = .ok (.invokevirtual 185, 3) := dk_182 0 185 (dk_at dksX1_bridge_1 1 rfl rfl)
theorem dX1_bridge_28 : decode cX1_bridge 28 = .ok (.ireturn, 1) := dk_172 (dk_at dksX1_bridge_1 4 rfl rfl)
abbrev cX1_link : ByteArray := prog_1_method_24_code
def yX1_link : MethodName := ⟨RX1, "link", "(II)I"⟩
def dkwX1_link_1 : List UInt8 := [28, 182, 0, 196, 172]
abbrev dktX1_link_1 : List UInt8 := dkwX1_link_1 ++ []
def dkwX1_link_0 : List UInt8 := [42, 180, 0, 60, 27, 182, 0, 193, 78, 28, 133, 9, 20, 0, 84, 184, 0, 86, 18, 183, 184, 0, 92, 45]
abbrev dktX1_link_0 : List UInt8 := dkwX1_link_0 ++ dktX1_link_1
theorem dksX1_link_0 : cX1_link.data.toList.drop 0 = dktX1_link_0 := by decide +kernel
theorem dksX1_link_1 : cX1_link.data.toList.drop 24 = dktX1_link_1 := dk_seg dksX1_link_0 24 rfl rfl
theorem dX1_link_0 : decode cX1_link 0 = .ok (.aload_n 0, 1) := dk_42 (dk_at dksX1_link_0 0 rfl rfl)
theorem dX1_link_1 : decode cX1_link 1 = .ok (.getfield 60, 3) := dk_180 0 60 (dk_at dksX1_link_0 1 rfl rfl)
theorem dX1_link_4 : decode cX1_link 4 = .ok (.iload_n 1, 1) := dk_27 (dk_at dksX1_link_0 4 rfl rfl)
theorem dX1_link_5 : decode cX1_link 5 = .ok (.invokevirtual 193, 3) := dk_182 0 193 (dk_at dksX1_link_0 5 rfl rfl)
theorem dX1_link_8 : decode cX1_link 8 = .ok (.astore_n 3, 1) := dk_78 (dk_at dksX1_link_0 8 rfl rfl)
theorem dX1_link_9 : decode cX1_link 9 = .ok (.iload_n 2, 1) := dk_28 (dk_at dksX1_link_0 9 rfl rfl)
theorem dX1_link_10 : decode cX1_link 10 = .ok (.i2l, 1) := dk_133 (dk_at dksX1_link_0 10 rfl rfl)
theorem dX1_link_11 : decode cX1_link 11 = .ok (.lconst 0, 1) := dk_9 (dk_at dksX1_link_0 11 rfl rfl)
theorem dX1_link_12 : decode cX1_link 12 = .ok (.ldc2_w 84, 3) := dk_20 0 84 (dk_at dksX1_link_0 12 rfl rfl)
theorem dX1_link_15 : decode cX1_link 15 = .ok (.invokestatic 86, 3) := dk_184 0 86 (dk_at dksX1_link_0 15 rfl rfl)
theorem dX1_link_18 : decode cX1_link 18 = .ok (.ldc 183, 2) := dk_18 183 (dk_at dksX1_link_0 18 rfl rfl)
theorem dX1_link_20 : decode cX1_link 20 = .ok (.invokestatic 92, 3) := dk_184 0 92 (dk_at dksX1_link_0 20 rfl rfl)
theorem dX1_link_23 : decode cX1_link 23 = .ok (.aload_n 3, 1) := dk_45 (dk_at dksX1_link_0 23 rfl rfl)
theorem dX1_link_24 : decode cX1_link 24 = .ok (.iload_n 2, 1) := dk_28 (dk_at dksX1_link_1 0 rfl rfl)
theorem dX1_link_25 : decode cX1_link 25 = .ok (.invokevirtual 196, 3) := dk_182 0 196 (dk_at dksX1_link_1 1 rfl rfl)
theorem dX1_link_28 : decode cX1_link 28 = .ok (.ireturn, 1) := dk_172 (dk_at dksX1_link_1 4 rfl rfl)
abbrev cX1_port : ByteArray := prog_1_method_25_code
def yX1_port : MethodName := ⟨RX1, "port", "(IZI)I"⟩
def dkwX1_port_1 : List UInt8 := [28, 153, 0, 11, 25, 4, 180, 0, 199, 167, 0, 8, 25, 4, 180, 0, 203, 29, 182, 0, 206, 172]
abbrev dktX1_port_1 : List UInt8 := dkwX1_port_1 ++ []
def dkwX1_port_0 : List UInt8 := [42, 180, 0, 60, 27, 182, 0, 193, 58, 4, 29, 133, 9, 20, 0, 82, 184, 0, 86, 18, 183, 184, 0, 92]
abbrev dktX1_port_0 : List UInt8 := dkwX1_port_0 ++ dktX1_port_1
theorem dksX1_port_0 : cX1_port.data.toList.drop 0 = dktX1_port_0 := by decide +kernel
theorem dksX1_port_1 : cX1_port.data.toList.drop 24 = dktX1_port_1 := dk_seg dksX1_port_0 24 rfl rfl
theorem dX1_port_0 : decode cX1_port 0 = .ok (.aload_n 0, 1) := dk_42 (dk_at dksX1_port_0 0 rfl rfl)
theorem dX1_port_1 : decode cX1_port 1 = .ok (.getfield 60, 3) := dk_180 0 60 (dk_at dksX1_port_0 1 rfl rfl)
theorem dX1_port_4 : decode cX1_port 4 = .ok (.iload_n 1, 1) := dk_27 (dk_at dksX1_port_0 4 rfl rfl)
theorem dX1_port_5 : decode cX1_port 5 = .ok (.invokevirtual 193, 3) := dk_182 0 193 (dk_at dksX1_port_0 5 rfl rfl)
theorem dX1_port_8 : decode cX1_port 8 = .ok (.astore 4, 2) := dk_58 4 (dk_at dksX1_port_0 8 rfl rfl)
theorem dX1_port_10 : decode cX1_port 10 = .ok (.iload_n 3, 1) := dk_29 (dk_at dksX1_port_0 10 rfl rfl)
theorem dX1_port_11 : decode cX1_port 11 = .ok (.i2l, 1) := dk_133 (dk_at dksX1_port_0 11 rfl rfl)
theorem dX1_port_12 : decode cX1_port 12 = .ok (.lconst 0, 1) := dk_9 (dk_at dksX1_port_0 12 rfl rfl)
theorem dX1_port_13 : decode cX1_port 13 = .ok (.ldc2_w 82, 3) := dk_20 0 82 (dk_at dksX1_port_0 13 rfl rfl)
theorem dX1_port_16 : decode cX1_port 16 = .ok (.invokestatic 86, 3) := dk_184 0 86 (dk_at dksX1_port_0 16 rfl rfl)
theorem dX1_port_19 : decode cX1_port 19 = .ok (.ldc 183, 2) := dk_18 183 (dk_at dksX1_port_0 19 rfl rfl)
theorem dX1_port_21 : decode cX1_port 21 = .ok (.invokestatic 92, 3) := dk_184 0 92 (dk_at dksX1_port_0 21 rfl rfl)
theorem dX1_port_24 : decode cX1_port 24 = .ok (.iload_n 2, 1) := dk_28 (dk_at dksX1_port_1 0 rfl rfl)
theorem dX1_port_25 : decode cX1_port 25 = .ok (.ifCond .eq 11, 3) := dk_153 0 11 (dk_at dksX1_port_1 1 rfl rfl)
theorem dX1_port_28 : decode cX1_port 28 = .ok (.aload 4, 2) := dk_25 4 (dk_at dksX1_port_1 4 rfl rfl)
theorem dX1_port_30 : decode cX1_port 30 = .ok (.getfield 199, 3) := dk_180 0 199 (dk_at dksX1_port_1 6 rfl rfl)
theorem dX1_port_33 : decode cX1_port 33 = .ok (.goto 8, 3) := dk_167 0 8 (dk_at dksX1_port_1 9 rfl rfl)
theorem dX1_port_36 : decode cX1_port 36 = .ok (.aload 4, 2) := dk_25 4 (dk_at dksX1_port_1 12 rfl rfl)
theorem dX1_port_38 : decode cX1_port 38 = .ok (.getfield 203, 3) := dk_180 0 203 (dk_at dksX1_port_1 14 rfl rfl)
theorem dX1_port_41 : decode cX1_port 41 = .ok (.iload_n 3, 1) := dk_29 (dk_at dksX1_port_1 17 rfl rfl)
theorem dX1_port_42 : decode cX1_port 42 = .ok (.invokevirtual 206, 3) := dk_182 0 206 (dk_at dksX1_port_1 18 rfl rfl)
theorem dX1_port_45 : decode cX1_port 45 = .ok (.ireturn, 1) := dk_172 (dk_at dksX1_port_1 21 rfl rfl)
abbrev cX1_entry : ByteArray := prog_1_method_26_code
def yX1_entry : MethodName := ⟨RX1, "entry", "(II)I"⟩
def dkwX1_entry_2 : List UInt8 := [180, 0, 173, 182, 0, 217, 172]
abbrev dktX1_entry_2 : List UInt8 := dkwX1_entry_2 ++ []
def dkwX1_entry_1 : List UInt8 := [167, 0, 4, 3, 18, 215, 184, 0, 151, 42, 180, 0, 60, 27, 182, 0, 179, 28, 42, 180, 0, 60]
abbrev dktX1_entry_1 : List UInt8 := dkwX1_entry_1 ++ dktX1_entry_2
def dkwX1_entry_0 : List UInt8 := [42, 180, 0, 60, 27, 182, 0, 209, 153, 0, 19, 28, 133, 9, 20, 0, 213, 184, 0, 86, 153, 0, 7, 4]
abbrev dktX1_entry_0 : List UInt8 := dkwX1_entry_0 ++ dktX1_entry_1
theorem dksX1_entry_0 : cX1_entry.data.toList.drop 0 = dktX1_entry_0 := by decide +kernel
theorem dksX1_entry_1 : cX1_entry.data.toList.drop 24 = dktX1_entry_1 := dk_seg dksX1_entry_0 24 rfl rfl
theorem dksX1_entry_2 : cX1_entry.data.toList.drop 46 = dktX1_entry_2 := dk_seg dksX1_entry_1 22 rfl rfl
theorem dX1_entry_0 : decode cX1_entry 0 = .ok (.aload_n 0, 1) := dk_42 (dk_at dksX1_entry_0 0 rfl rfl)
theorem dX1_entry_1 : decode cX1_entry 1 = .ok (.getfield 60, 3) := dk_180 0 60 (dk_at dksX1_entry_0 1 rfl rfl)
theorem dX1_entry_4 : decode cX1_entry 4 = .ok (.iload_n 1, 1) := dk_27 (dk_at dksX1_entry_0 4 rfl rfl)
theorem dX1_entry_5 : decode cX1_entry 5 = .ok (.invokevirtual 209, 3) := dk_182 0 209 (dk_at dksX1_entry_0 5 rfl rfl)
theorem dX1_entry_8 : decode cX1_entry 8 = .ok (.ifCond .eq 19, 3) := dk_153 0 19 (dk_at dksX1_entry_0 8 rfl rfl)
theorem dX1_entry_11 : decode cX1_entry 11 = .ok (.iload_n 2, 1) := dk_28 (dk_at dksX1_entry_0 11 rfl rfl)
theorem dX1_entry_12 : decode cX1_entry 12 = .ok (.i2l, 1) := dk_133 (dk_at dksX1_entry_0 12 rfl rfl)
theorem dX1_entry_13 : decode cX1_entry 13 = .ok (.lconst 0, 1) := dk_9 (dk_at dksX1_entry_0 13 rfl rfl)
theorem dX1_entry_14 : decode cX1_entry 14 = .ok (.ldc2_w 213, 3) := dk_20 0 213 (dk_at dksX1_entry_0 14 rfl rfl)
theorem dX1_entry_17 : decode cX1_entry 17 = .ok (.invokestatic 86, 3) := dk_184 0 86 (dk_at dksX1_entry_0 17 rfl rfl)
theorem dX1_entry_20 : decode cX1_entry 20 = .ok (.ifCond .eq 7, 3) := dk_153 0 7 (dk_at dksX1_entry_0 20 rfl rfl)
theorem dX1_entry_23 : decode cX1_entry 23 = .ok (.iconst 1, 1) := dk_4 (dk_at dksX1_entry_0 23 rfl rfl)
theorem dX1_entry_24 : decode cX1_entry 24 = .ok (.goto 4, 3) := dk_167 0 4 (dk_at dksX1_entry_1 0 rfl rfl)
theorem dX1_entry_27 : decode cX1_entry 27 = .ok (.iconst 0, 1) := dk_3 (dk_at dksX1_entry_1 3 rfl rfl)
theorem dX1_entry_28 : decode cX1_entry 28 = .ok (.ldc 215, 2) := dk_18 215 (dk_at dksX1_entry_1 4 rfl rfl)
theorem dX1_entry_30 : decode cX1_entry 30 = .ok (.invokestatic 151, 3) := dk_184 0 151 (dk_at dksX1_entry_1 6 rfl rfl)
theorem dX1_entry_33 : decode cX1_entry 33 = .ok (.aload_n 0, 1) := dk_42 (dk_at dksX1_entry_1 9 rfl rfl)
theorem dX1_entry_34 : decode cX1_entry 34 = .ok (.getfield 60, 3) := dk_180 0 60 (dk_at dksX1_entry_1 10 rfl rfl)
theorem dX1_entry_37 : decode cX1_entry 37 = .ok (.iload_n 1, 1) := dk_27 (dk_at dksX1_entry_1 13 rfl rfl)
theorem dX1_entry_38 : decode cX1_entry 38 = .ok (.invokevirtual 179, 3) := dk_182 0 179 (dk_at dksX1_entry_1 14 rfl rfl)
theorem dX1_entry_41 : decode cX1_entry 41 = .ok (.iload_n 2, 1) := dk_28 (dk_at dksX1_entry_1 17 rfl rfl)
theorem dX1_entry_42 : decode cX1_entry 42 = .ok (.aload_n 0, 1) := dk_42 (dk_at dksX1_entry_1 18 rfl rfl)
theorem dX1_entry_43 : decode cX1_entry 43 = .ok (.getfield 60, 3) := dk_180 0 60 (dk_at dksX1_entry_1 19 rfl rfl)
theorem dX1_entry_46 : decode cX1_entry 46 = .ok (.getfield 173, 3) := dk_180 0 173 (dk_at dksX1_entry_2 0 rfl rfl)
theorem dX1_entry_49 : decode cX1_entry 49 = .ok (.invokevirtual 217, 3) := dk_182 0 217 (dk_at dksX1_entry_2 3 rfl rfl)
theorem dX1_entry_52 : decode cX1_entry 52 = .ok (.ireturn, 1) := dk_172 (dk_at dksX1_entry_2 6 rfl rfl)
abbrev cX1_tenant : ByteArray := prog_1_method_27_code
def yX1_tenant : MethodName := ⟨RX1, "tenant", "(II)I"⟩
def dkwX1_tenant_1 : List UInt8 := [182, 0, 220, 172]
abbrev dktX1_tenant_1 : List UInt8 := dkwX1_tenant_1 ++ []
def dkwX1_tenant_0 : List UInt8 := [27, 184, 0, 154, 28, 133, 9, 20, 0, 147, 184, 0, 86, 18, 183, 184, 0, 92, 42, 180, 0, 60, 27, 28]
abbrev dktX1_tenant_0 : List UInt8 := dkwX1_tenant_0 ++ dktX1_tenant_1
theorem dksX1_tenant_0 : cX1_tenant.data.toList.drop 0 = dktX1_tenant_0 := by decide +kernel
theorem dksX1_tenant_1 : cX1_tenant.data.toList.drop 24 = dktX1_tenant_1 := dk_seg dksX1_tenant_0 24 rfl rfl
theorem dX1_tenant_0 : decode cX1_tenant 0 = .ok (.iload_n 1, 1) := dk_27 (dk_at dksX1_tenant_0 0 rfl rfl)
theorem dX1_tenant_1 : decode cX1_tenant 1 = .ok (.invokestatic 154, 3) := dk_184 0 154 (dk_at dksX1_tenant_0 1 rfl rfl)
theorem dX1_tenant_4 : decode cX1_tenant 4 = .ok (.iload_n 2, 1) := dk_28 (dk_at dksX1_tenant_0 4 rfl rfl)
theorem dX1_tenant_5 : decode cX1_tenant 5 = .ok (.i2l, 1) := dk_133 (dk_at dksX1_tenant_0 5 rfl rfl)
theorem dX1_tenant_6 : decode cX1_tenant 6 = .ok (.lconst 0, 1) := dk_9 (dk_at dksX1_tenant_0 6 rfl rfl)
theorem dX1_tenant_7 : decode cX1_tenant 7 = .ok (.ldc2_w 147, 3) := dk_20 0 147 (dk_at dksX1_tenant_0 7 rfl rfl)
theorem dX1_tenant_10 : decode cX1_tenant 10 = .ok (.invokestatic 86, 3) := dk_184 0 86 (dk_at dksX1_tenant_0 10 rfl rfl)
theorem dX1_tenant_13 : decode cX1_tenant 13 = .ok (.ldc 183, 2) := dk_18 183 (dk_at dksX1_tenant_0 13 rfl rfl)
theorem dX1_tenant_15 : decode cX1_tenant 15 = .ok (.invokestatic 92, 3) := dk_184 0 92 (dk_at dksX1_tenant_0 15 rfl rfl)
theorem dX1_tenant_18 : decode cX1_tenant 18 = .ok (.aload_n 0, 1) := dk_42 (dk_at dksX1_tenant_0 18 rfl rfl)
theorem dX1_tenant_19 : decode cX1_tenant 19 = .ok (.getfield 60, 3) := dk_180 0 60 (dk_at dksX1_tenant_0 19 rfl rfl)
theorem dX1_tenant_22 : decode cX1_tenant 22 = .ok (.iload_n 1, 1) := dk_27 (dk_at dksX1_tenant_0 22 rfl rfl)
theorem dX1_tenant_23 : decode cX1_tenant 23 = .ok (.iload_n 2, 1) := dk_28 (dk_at dksX1_tenant_0 23 rfl rfl)
theorem dX1_tenant_24 : decode cX1_tenant 24 = .ok (.invokevirtual 220, 3) := dk_182 0 220 (dk_at dksX1_tenant_1 0 rfl rfl)
theorem dX1_tenant_27 : decode cX1_tenant 27 = .ok (.ireturn, 1) := dk_172 (dk_at dksX1_tenant_1 3 rfl rfl)
abbrev cX1_bidOf : ByteArray := prog_1_method_28_code
def yX1_bidOf : MethodName := ⟨RX1, "bidOf", "(II)I"⟩
def dkwX1_bidOf_1 : List UInt8 := [167, 0, 4, 3, 18, 226, 184, 0, 151, 42, 180, 0, 60, 28, 182, 0, 193, 180, 0, 228, 27, 46, 172]
abbrev dktX1_bidOf_1 : List UInt8 := dkwX1_bidOf_1 ++ []
def dkwX1_bidOf_0 : List UInt8 := [27, 133, 9, 20, 0, 147, 184, 0, 86, 153, 0, 18, 42, 180, 0, 60, 28, 182, 0, 223, 153, 0, 7, 4]
abbrev dktX1_bidOf_0 : List UInt8 := dkwX1_bidOf_0 ++ dktX1_bidOf_1
theorem dksX1_bidOf_0 : cX1_bidOf.data.toList.drop 0 = dktX1_bidOf_0 := by decide +kernel
theorem dksX1_bidOf_1 : cX1_bidOf.data.toList.drop 24 = dktX1_bidOf_1 := dk_seg dksX1_bidOf_0 24 rfl rfl
theorem dX1_bidOf_0 : decode cX1_bidOf 0 = .ok (.iload_n 1, 1) := dk_27 (dk_at dksX1_bidOf_0 0 rfl rfl)
theorem dX1_bidOf_1 : decode cX1_bidOf 1 = .ok (.i2l, 1) := dk_133 (dk_at dksX1_bidOf_0 1 rfl rfl)
theorem dX1_bidOf_2 : decode cX1_bidOf 2 = .ok (.lconst 0, 1) := dk_9 (dk_at dksX1_bidOf_0 2 rfl rfl)
theorem dX1_bidOf_3 : decode cX1_bidOf 3 = .ok (.ldc2_w 147, 3) := dk_20 0 147 (dk_at dksX1_bidOf_0 3 rfl rfl)
theorem dX1_bidOf_6 : decode cX1_bidOf 6 = .ok (.invokestatic 86, 3) := dk_184 0 86 (dk_at dksX1_bidOf_0 6 rfl rfl)
theorem dX1_bidOf_9 : decode cX1_bidOf 9 = .ok (.ifCond .eq 18, 3) := dk_153 0 18 (dk_at dksX1_bidOf_0 9 rfl rfl)
theorem dX1_bidOf_12 : decode cX1_bidOf 12 = .ok (.aload_n 0, 1) := dk_42 (dk_at dksX1_bidOf_0 12 rfl rfl)
theorem dX1_bidOf_13 : decode cX1_bidOf 13 = .ok (.getfield 60, 3) := dk_180 0 60 (dk_at dksX1_bidOf_0 13 rfl rfl)
theorem dX1_bidOf_16 : decode cX1_bidOf 16 = .ok (.iload_n 2, 1) := dk_28 (dk_at dksX1_bidOf_0 16 rfl rfl)
theorem dX1_bidOf_17 : decode cX1_bidOf 17 = .ok (.invokevirtual 223, 3) := dk_182 0 223 (dk_at dksX1_bidOf_0 17 rfl rfl)
theorem dX1_bidOf_20 : decode cX1_bidOf 20 = .ok (.ifCond .eq 7, 3) := dk_153 0 7 (dk_at dksX1_bidOf_0 20 rfl rfl)
theorem dX1_bidOf_23 : decode cX1_bidOf 23 = .ok (.iconst 1, 1) := dk_4 (dk_at dksX1_bidOf_0 23 rfl rfl)
theorem dX1_bidOf_24 : decode cX1_bidOf 24 = .ok (.goto 4, 3) := dk_167 0 4 (dk_at dksX1_bidOf_1 0 rfl rfl)
theorem dX1_bidOf_27 : decode cX1_bidOf 27 = .ok (.iconst 0, 1) := dk_3 (dk_at dksX1_bidOf_1 3 rfl rfl)
theorem dX1_bidOf_28 : decode cX1_bidOf 28 = .ok (.ldc 226, 2) := dk_18 226 (dk_at dksX1_bidOf_1 4 rfl rfl)
theorem dX1_bidOf_30 : decode cX1_bidOf 30 = .ok (.invokestatic 151, 3) := dk_184 0 151 (dk_at dksX1_bidOf_1 6 rfl rfl)
theorem dX1_bidOf_33 : decode cX1_bidOf 33 = .ok (.aload_n 0, 1) := dk_42 (dk_at dksX1_bidOf_1 9 rfl rfl)
theorem dX1_bidOf_34 : decode cX1_bidOf 34 = .ok (.getfield 60, 3) := dk_180 0 60 (dk_at dksX1_bidOf_1 10 rfl rfl)
theorem dX1_bidOf_37 : decode cX1_bidOf 37 = .ok (.iload_n 2, 1) := dk_28 (dk_at dksX1_bidOf_1 13 rfl rfl)
theorem dX1_bidOf_38 : decode cX1_bidOf 38 = .ok (.invokevirtual 193, 3) := dk_182 0 193 (dk_at dksX1_bidOf_1 14 rfl rfl)
theorem dX1_bidOf_41 : decode cX1_bidOf 41 = .ok (.getfield 228, 3) := dk_180 0 228 (dk_at dksX1_bidOf_1 17 rfl rfl)
theorem dX1_bidOf_44 : decode cX1_bidOf 44 = .ok (.iload_n 1, 1) := dk_27 (dk_at dksX1_bidOf_1 20 rfl rfl)
theorem dX1_bidOf_45 : decode cX1_bidOf 45 = .ok (.iaload, 1) := dk_46 (dk_at dksX1_bidOf_1 21 rfl rfl)
theorem dX1_bidOf_46 : decode cX1_bidOf 46 = .ok (.ireturn, 1) := dk_172 (dk_at dksX1_bidOf_1 22 rfl rfl)
abbrev cX1_count : ByteArray := prog_1_method_29_code
def yX1_count : MethodName := ⟨RX1, "count", "(I)I"⟩
def dkwX1_count_0 : List UInt8 := [27, 133, 9, 20, 0, 231, 184, 0, 86, 18, 183, 184, 0, 92, 42, 180, 0, 60, 27, 182, 0, 233, 172]
abbrev dktX1_count_0 : List UInt8 := dkwX1_count_0 ++ []
theorem dksX1_count_0 : cX1_count.data.toList.drop 0 = dktX1_count_0 := by decide +kernel
theorem dX1_count_0 : decode cX1_count 0 = .ok (.iload_n 1, 1) := dk_27 (dk_at dksX1_count_0 0 rfl rfl)
theorem dX1_count_1 : decode cX1_count 1 = .ok (.i2l, 1) := dk_133 (dk_at dksX1_count_0 1 rfl rfl)
theorem dX1_count_2 : decode cX1_count 2 = .ok (.lconst 0, 1) := dk_9 (dk_at dksX1_count_0 2 rfl rfl)
theorem dX1_count_3 : decode cX1_count 3 = .ok (.ldc2_w 231, 3) := dk_20 0 231 (dk_at dksX1_count_0 3 rfl rfl)
theorem dX1_count_6 : decode cX1_count 6 = .ok (.invokestatic 86, 3) := dk_184 0 86 (dk_at dksX1_count_0 6 rfl rfl)
theorem dX1_count_9 : decode cX1_count 9 = .ok (.ldc 183, 2) := dk_18 183 (dk_at dksX1_count_0 9 rfl rfl)
theorem dX1_count_11 : decode cX1_count 11 = .ok (.invokestatic 92, 3) := dk_184 0 92 (dk_at dksX1_count_0 11 rfl rfl)
theorem dX1_count_14 : decode cX1_count 14 = .ok (.aload_n 0, 1) := dk_42 (dk_at dksX1_count_0 14 rfl rfl)
theorem dX1_count_15 : decode cX1_count 15 = .ok (.getfield 60, 3) := dk_180 0 60 (dk_at dksX1_count_0 15 rfl rfl)
theorem dX1_count_18 : decode cX1_count 18 = .ok (.iload_n 1, 1) := dk_27 (dk_at dksX1_count_0 18 rfl rfl)
theorem dX1_count_19 : decode cX1_count 19 = .ok (.invokevirtual 233, 3) := dk_182 0 233 (dk_at dksX1_count_0 19 rfl rfl)
theorem dX1_count_22 : decode cX1_count 22 = .ok (.ireturn, 1) := dk_172 (dk_at dksX1_count_0 22 rfl rfl)
abbrev cX1_type : ByteArray := prog_1_method_31_code
def yX1_type : MethodName := ⟨RX1, "type", "(I)I"⟩
def dkwX1_type_2 : List UInt8 := [180, 0, 244, 4, 96, 181, 0, 244, 42, 180, 0, 244, 172]
abbrev dktX1_type_2 : List UInt8 := dkwX1_type_2 ++ []
def dkwX1_type_1 : List UInt8 := [167, 0, 4, 3, 18, 247, 184, 0, 168, 42, 180, 0, 68, 42, 180, 0, 244, 27, 145, 84, 42, 89]
abbrev dktX1_type_1 : List UInt8 := dkwX1_type_1 ++ dktX1_type_2
def dkwX1_type_0 : List UInt8 := [27, 133, 9, 20, 0, 240, 184, 0, 86, 18, 242, 184, 0, 92, 42, 180, 0, 244, 16, 120, 162, 0, 7, 4]
abbrev dktX1_type_0 : List UInt8 := dkwX1_type_0 ++ dktX1_type_1
theorem dksX1_type_0 : cX1_type.data.toList.drop 0 = dktX1_type_0 := by decide +kernel
theorem dksX1_type_1 : cX1_type.data.toList.drop 24 = dktX1_type_1 := dk_seg dksX1_type_0 24 rfl rfl
theorem dksX1_type_2 : cX1_type.data.toList.drop 46 = dktX1_type_2 := dk_seg dksX1_type_1 22 rfl rfl
theorem dX1_type_0 : decode cX1_type 0 = .ok (.iload_n 1, 1) := dk_27 (dk_at dksX1_type_0 0 rfl rfl)
theorem dX1_type_1 : decode cX1_type 1 = .ok (.i2l, 1) := dk_133 (dk_at dksX1_type_0 1 rfl rfl)
theorem dX1_type_2 : decode cX1_type 2 = .ok (.lconst 0, 1) := dk_9 (dk_at dksX1_type_0 2 rfl rfl)
theorem dX1_type_3 : decode cX1_type 3 = .ok (.ldc2_w 240, 3) := dk_20 0 240 (dk_at dksX1_type_0 3 rfl rfl)
theorem dX1_type_6 : decode cX1_type 6 = .ok (.invokestatic 86, 3) := dk_184 0 86 (dk_at dksX1_type_0 6 rfl rfl)
theorem dX1_type_9 : decode cX1_type 9 = .ok (.ldc 242, 2) := dk_18 242 (dk_at dksX1_type_0 9 rfl rfl)
theorem dX1_type_11 : decode cX1_type 11 = .ok (.invokestatic 92, 3) := dk_184 0 92 (dk_at dksX1_type_0 11 rfl rfl)
theorem dX1_type_14 : decode cX1_type 14 = .ok (.aload_n 0, 1) := dk_42 (dk_at dksX1_type_0 14 rfl rfl)
theorem dX1_type_15 : decode cX1_type 15 = .ok (.getfield 244, 3) := dk_180 0 244 (dk_at dksX1_type_0 15 rfl rfl)
theorem dX1_type_18 : decode cX1_type 18 = .ok (.bipush 120, 2) := dk_16 120 (dk_at dksX1_type_0 18 rfl rfl)
theorem dX1_type_20 : decode cX1_type 20 = .ok (.if_icmp .ge 7, 3) := dk_162 0 7 (dk_at dksX1_type_0 20 rfl rfl)
theorem dX1_type_23 : decode cX1_type 23 = .ok (.iconst 1, 1) := dk_4 (dk_at dksX1_type_0 23 rfl rfl)
theorem dX1_type_24 : decode cX1_type 24 = .ok (.goto 4, 3) := dk_167 0 4 (dk_at dksX1_type_1 0 rfl rfl)
theorem dX1_type_27 : decode cX1_type 27 = .ok (.iconst 0, 1) := dk_3 (dk_at dksX1_type_1 3 rfl rfl)
theorem dX1_type_28 : decode cX1_type 28 = .ok (.ldc 247, 2) := dk_18 247 (dk_at dksX1_type_1 4 rfl rfl)
theorem dX1_type_30 : decode cX1_type 30 = .ok (.invokestatic 168, 3) := dk_184 0 168 (dk_at dksX1_type_1 6 rfl rfl)
theorem dX1_type_33 : decode cX1_type 33 = .ok (.aload_n 0, 1) := dk_42 (dk_at dksX1_type_1 9 rfl rfl)
theorem dX1_type_34 : decode cX1_type 34 = .ok (.getfield 68, 3) := dk_180 0 68 (dk_at dksX1_type_1 10 rfl rfl)
theorem dX1_type_37 : decode cX1_type 37 = .ok (.aload_n 0, 1) := dk_42 (dk_at dksX1_type_1 13 rfl rfl)
theorem dX1_type_38 : decode cX1_type 38 = .ok (.getfield 244, 3) := dk_180 0 244 (dk_at dksX1_type_1 14 rfl rfl)
theorem dX1_type_41 : decode cX1_type 41 = .ok (.iload_n 1, 1) := dk_27 (dk_at dksX1_type_1 17 rfl rfl)
theorem dX1_type_42 : decode cX1_type 42 = .ok (.i2b, 1) := dk_145 (dk_at dksX1_type_1 18 rfl rfl)
theorem dX1_type_43 : decode cX1_type 43 = .ok (.bastore, 1) := dk_84 (dk_at dksX1_type_1 19 rfl rfl)
theorem dX1_type_44 : decode cX1_type 44 = .ok (.aload_n 0, 1) := dk_42 (dk_at dksX1_type_1 20 rfl rfl)
theorem dX1_type_45 : decode cX1_type 45 = .ok (.dup, 1) := dk_89 (dk_at dksX1_type_1 21 rfl rfl)
theorem dX1_type_46 : decode cX1_type 46 = .ok (.getfield 244, 3) := dk_180 0 244 (dk_at dksX1_type_2 0 rfl rfl)
theorem dX1_type_49 : decode cX1_type 49 = .ok (.iconst 1, 1) := dk_4 (dk_at dksX1_type_2 3 rfl rfl)
theorem dX1_type_50 : decode cX1_type 50 = .ok (.iadd, 1) := dk_96 (dk_at dksX1_type_2 4 rfl rfl)
theorem dX1_type_51 : decode cX1_type 51 = .ok (.putfield 244, 3) := dk_181 0 244 (dk_at dksX1_type_2 5 rfl rfl)
theorem dX1_type_54 : decode cX1_type 54 = .ok (.aload_n 0, 1) := dk_42 (dk_at dksX1_type_2 8 rfl rfl)
theorem dX1_type_55 : decode cX1_type 55 = .ok (.getfield 244, 3) := dk_180 0 244 (dk_at dksX1_type_2 9 rfl rfl)
theorem dX1_type_58 : decode cX1_type 58 = .ok (.ireturn, 1) := dk_172 (dk_at dksX1_type_2 12 rfl rfl)
abbrev cX1_undo : ByteArray := prog_1_method_35_code
def yX1_undo : MethodName := ⟨RX1, "undo", "()I"⟩
def dkwX1_undo_1 : List UInt8 := [100, 181, 0, 72, 42, 42, 180, 0, 64, 42, 180, 0, 72, 50, 181, 0, 60, 42, 180, 0, 72, 172]
abbrev dktX1_undo_1 : List UInt8 := dkwX1_undo_1 ++ []
def dkwX1_undo_0 : List UInt8 := [42, 180, 0, 72, 158, 0, 7, 4, 167, 0, 4, 3, 19, 1, 19, 184, 0, 168, 42, 89, 180, 0, 72, 4]
abbrev dktX1_undo_0 : List UInt8 := dkwX1_undo_0 ++ dktX1_undo_1
theorem dksX1_undo_0 : cX1_undo.data.toList.drop 0 = dktX1_undo_0 := by decide +kernel
theorem dksX1_undo_1 : cX1_undo.data.toList.drop 24 = dktX1_undo_1 := dk_seg dksX1_undo_0 24 rfl rfl
theorem dX1_undo_0 : decode cX1_undo 0 = .ok (.aload_n 0, 1) := dk_42 (dk_at dksX1_undo_0 0 rfl rfl)
theorem dX1_undo_1 : decode cX1_undo 1 = .ok (.getfield 72, 3) := dk_180 0 72 (dk_at dksX1_undo_0 1 rfl rfl)
theorem dX1_undo_4 : decode cX1_undo 4 = .ok (.ifCond .le 7, 3) := dk_158 0 7 (dk_at dksX1_undo_0 4 rfl rfl)
theorem dX1_undo_7 : decode cX1_undo 7 = .ok (.iconst 1, 1) := dk_4 (dk_at dksX1_undo_0 7 rfl rfl)
theorem dX1_undo_8 : decode cX1_undo 8 = .ok (.goto 4, 3) := dk_167 0 4 (dk_at dksX1_undo_0 8 rfl rfl)
theorem dX1_undo_11 : decode cX1_undo 11 = .ok (.iconst 0, 1) := dk_3 (dk_at dksX1_undo_0 11 rfl rfl)
theorem dX1_undo_12 : decode cX1_undo 12 = .ok (.ldc_w 275, 3) := dk_19 1 19 (dk_at dksX1_undo_0 12 rfl rfl)
theorem dX1_undo_15 : decode cX1_undo 15 = .ok (.invokestatic 168, 3) := dk_184 0 168 (dk_at dksX1_undo_0 15 rfl rfl)
theorem dX1_undo_18 : decode cX1_undo 18 = .ok (.aload_n 0, 1) := dk_42 (dk_at dksX1_undo_0 18 rfl rfl)
theorem dX1_undo_19 : decode cX1_undo 19 = .ok (.dup, 1) := dk_89 (dk_at dksX1_undo_0 19 rfl rfl)
theorem dX1_undo_20 : decode cX1_undo 20 = .ok (.getfield 72, 3) := dk_180 0 72 (dk_at dksX1_undo_0 20 rfl rfl)
theorem dX1_undo_23 : decode cX1_undo 23 = .ok (.iconst 1, 1) := dk_4 (dk_at dksX1_undo_0 23 rfl rfl)
theorem dX1_undo_24 : decode cX1_undo 24 = .ok (.isub, 1) := dk_100 (dk_at dksX1_undo_1 0 rfl rfl)
theorem dX1_undo_25 : decode cX1_undo 25 = .ok (.putfield 72, 3) := dk_181 0 72 (dk_at dksX1_undo_1 1 rfl rfl)
theorem dX1_undo_28 : decode cX1_undo 28 = .ok (.aload_n 0, 1) := dk_42 (dk_at dksX1_undo_1 4 rfl rfl)
theorem dX1_undo_29 : decode cX1_undo 29 = .ok (.aload_n 0, 1) := dk_42 (dk_at dksX1_undo_1 5 rfl rfl)
theorem dX1_undo_30 : decode cX1_undo 30 = .ok (.getfield 64, 3) := dk_180 0 64 (dk_at dksX1_undo_1 6 rfl rfl)
theorem dX1_undo_33 : decode cX1_undo 33 = .ok (.aload_n 0, 1) := dk_42 (dk_at dksX1_undo_1 9 rfl rfl)
theorem dX1_undo_34 : decode cX1_undo 34 = .ok (.getfield 72, 3) := dk_180 0 72 (dk_at dksX1_undo_1 10 rfl rfl)
theorem dX1_undo_37 : decode cX1_undo 37 = .ok (.aaload, 1) := dk_50 (dk_at dksX1_undo_1 13 rfl rfl)
theorem dX1_undo_38 : decode cX1_undo 38 = .ok (.putfield 60, 3) := dk_181 0 60 (dk_at dksX1_undo_1 14 rfl rfl)
theorem dX1_undo_41 : decode cX1_undo 41 = .ok (.aload_n 0, 1) := dk_42 (dk_at dksX1_undo_1 17 rfl rfl)
theorem dX1_undo_42 : decode cX1_undo 42 = .ok (.getfield 72, 3) := dk_180 0 72 (dk_at dksX1_undo_1 18 rfl rfl)
theorem dX1_undo_45 : decode cX1_undo 45 = .ok (.ireturn, 1) := dk_172 (dk_at dksX1_undo_1 21 rfl rfl)
