set_option maxRecDepth 100000
abbrev cX5_init : ByteArray := prog_11_method_1_code
def yX5_init : MethodName := ⟨RX5, "<init>", "()V"⟩
def dkwX5_init_4 : List UInt8 := [182, 0, 34, 177]
abbrev dktX5_init_4 : List UInt8 := dkwX5_init_4 ++ []
def dkwX5_init_3 : List UInt8 := [180, 0, 7, 5, 6, 79, 42, 180, 0, 7, 6, 16, 10, 79, 42, 180, 0, 7, 7, 8, 79, 42, 7]
abbrev dktX5_init_3 : List UInt8 := dkwX5_init_3 ++ dktX5_init_4
def dkwX5_init_2 : List UInt8 := [42, 16, 8, 188, 10, 181, 0, 25, 42, 16, 8, 188, 10, 181, 0, 28, 42, 6, 188, 10, 181, 0, 31, 42]
abbrev dktX5_init_2 : List UInt8 := dkwX5_init_2 ++ dktX5_init_3
def dkwX5_init_1 : List UInt8 := [17, 1, 231, 188, 10, 181, 0, 16, 42, 16, 120, 188, 10, 181, 0, 19, 42, 16, 32, 188, 10, 181, 0, 22]
abbrev dktX5_init_1 : List UInt8 := dkwX5_init_1 ++ dktX5_init_2
def dkwX5_init_0 : List UInt8 := [42, 183, 0, 1, 42, 17, 1, 231, 188, 10, 181, 0, 7, 42, 17, 5, 181, 188, 10, 181, 0, 13, 42]
abbrev dktX5_init_0 : List UInt8 := dkwX5_init_0 ++ dktX5_init_1
theorem dksX5_init_0 : cX5_init.data.toList.drop 0 = dktX5_init_0 := by decide +kernel
theorem dksX5_init_1 : cX5_init.data.toList.drop 23 = dktX5_init_1 := dk_seg dksX5_init_0 23 rfl rfl
theorem dksX5_init_2 : cX5_init.data.toList.drop 47 = dktX5_init_2 := dk_seg dksX5_init_1 24 rfl rfl
theorem dksX5_init_3 : cX5_init.data.toList.drop 71 = dktX5_init_3 := dk_seg dksX5_init_2 24 rfl rfl
theorem dksX5_init_4 : cX5_init.data.toList.drop 94 = dktX5_init_4 := dk_seg dksX5_init_3 23 rfl rfl
theorem dX5_init_0 : decode cX5_init 0 = .ok (.aload_n 0, 1) := dk_42 (dk_at dksX5_init_0 0 rfl rfl)
theorem dX5_init_1 : decode cX5_init 1 = .ok (.invokespecial 1, 3) := dk_183 0 1 (dk_at dksX5_init_0 1 rfl rfl)
theorem dX5_init_4 : decode cX5_init 4 = .ok (.aload_n 0, 1) := dk_42 (dk_at dksX5_init_0 4 rfl rfl)
theorem dX5_init_5 : decode cX5_init 5 = .ok (.sipush 487, 3) := dk_17 1 231 (dk_at dksX5_init_0 5 rfl rfl)
theorem dX5_init_8 : decode cX5_init 8 = .ok (.newarray .int, 2) := dk_188_10 (dk_at dksX5_init_0 8 rfl rfl)
theorem dX5_init_10 : decode cX5_init 10 = .ok (.putfield 7, 3) := dk_181 0 7 (dk_at dksX5_init_0 10 rfl rfl)
theorem dX5_init_13 : decode cX5_init 13 = .ok (.aload_n 0, 1) := dk_42 (dk_at dksX5_init_0 13 rfl rfl)
theorem dX5_init_14 : decode cX5_init 14 = .ok (.sipush 1461, 3) := dk_17 5 181 (dk_at dksX5_init_0 14 rfl rfl)
theorem dX5_init_17 : decode cX5_init 17 = .ok (.newarray .int, 2) := dk_188_10 (dk_at dksX5_init_0 17 rfl rfl)
theorem dX5_init_19 : decode cX5_init 19 = .ok (.putfield 13, 3) := dk_181 0 13 (dk_at dksX5_init_0 19 rfl rfl)
theorem dX5_init_22 : decode cX5_init 22 = .ok (.aload_n 0, 1) := dk_42 (dk_at dksX5_init_0 22 rfl rfl)
theorem dX5_init_23 : decode cX5_init 23 = .ok (.sipush 487, 3) := dk_17 1 231 (dk_at dksX5_init_1 0 rfl rfl)
theorem dX5_init_26 : decode cX5_init 26 = .ok (.newarray .int, 2) := dk_188_10 (dk_at dksX5_init_1 3 rfl rfl)
theorem dX5_init_28 : decode cX5_init 28 = .ok (.putfield 16, 3) := dk_181 0 16 (dk_at dksX5_init_1 5 rfl rfl)
theorem dX5_init_31 : decode cX5_init 31 = .ok (.aload_n 0, 1) := dk_42 (dk_at dksX5_init_1 8 rfl rfl)
theorem dX5_init_32 : decode cX5_init 32 = .ok (.bipush 120, 2) := dk_16 120 (dk_at dksX5_init_1 9 rfl rfl)
theorem dX5_init_34 : decode cX5_init 34 = .ok (.newarray .int, 2) := dk_188_10 (dk_at dksX5_init_1 11 rfl rfl)
theorem dX5_init_36 : decode cX5_init 36 = .ok (.putfield 19, 3) := dk_181 0 19 (dk_at dksX5_init_1 13 rfl rfl)
theorem dX5_init_39 : decode cX5_init 39 = .ok (.aload_n 0, 1) := dk_42 (dk_at dksX5_init_1 16 rfl rfl)
theorem dX5_init_40 : decode cX5_init 40 = .ok (.bipush 32, 2) := dk_16 32 (dk_at dksX5_init_1 17 rfl rfl)
theorem dX5_init_42 : decode cX5_init 42 = .ok (.newarray .int, 2) := dk_188_10 (dk_at dksX5_init_1 19 rfl rfl)
theorem dX5_init_44 : decode cX5_init 44 = .ok (.putfield 22, 3) := dk_181 0 22 (dk_at dksX5_init_1 21 rfl rfl)
theorem dX5_init_47 : decode cX5_init 47 = .ok (.aload_n 0, 1) := dk_42 (dk_at dksX5_init_2 0 rfl rfl)
theorem dX5_init_48 : decode cX5_init 48 = .ok (.bipush 8, 2) := dk_16 8 (dk_at dksX5_init_2 1 rfl rfl)
theorem dX5_init_50 : decode cX5_init 50 = .ok (.newarray .int, 2) := dk_188_10 (dk_at dksX5_init_2 3 rfl rfl)
theorem dX5_init_52 : decode cX5_init 52 = .ok (.putfield 25, 3) := dk_181 0 25 (dk_at dksX5_init_2 5 rfl rfl)
theorem dX5_init_55 : decode cX5_init 55 = .ok (.aload_n 0, 1) := dk_42 (dk_at dksX5_init_2 8 rfl rfl)
theorem dX5_init_56 : decode cX5_init 56 = .ok (.bipush 8, 2) := dk_16 8 (dk_at dksX5_init_2 9 rfl rfl)
theorem dX5_init_58 : decode cX5_init 58 = .ok (.newarray .int, 2) := dk_188_10 (dk_at dksX5_init_2 11 rfl rfl)
theorem dX5_init_60 : decode cX5_init 60 = .ok (.putfield 28, 3) := dk_181 0 28 (dk_at dksX5_init_2 13 rfl rfl)
theorem dX5_init_63 : decode cX5_init 63 = .ok (.aload_n 0, 1) := dk_42 (dk_at dksX5_init_2 16 rfl rfl)
theorem dX5_init_64 : decode cX5_init 64 = .ok (.iconst 3, 1) := dk_6 (dk_at dksX5_init_2 17 rfl rfl)
theorem dX5_init_65 : decode cX5_init 65 = .ok (.newarray .int, 2) := dk_188_10 (dk_at dksX5_init_2 18 rfl rfl)
theorem dX5_init_67 : decode cX5_init 67 = .ok (.putfield 31, 3) := dk_181 0 31 (dk_at dksX5_init_2 20 rfl rfl)
theorem dX5_init_70 : decode cX5_init 70 = .ok (.aload_n 0, 1) := dk_42 (dk_at dksX5_init_2 23 rfl rfl)
theorem dX5_init_71 : decode cX5_init 71 = .ok (.getfield 7, 3) := dk_180 0 7 (dk_at dksX5_init_3 0 rfl rfl)
theorem dX5_init_74 : decode cX5_init 74 = .ok (.iconst 2, 1) := dk_5 (dk_at dksX5_init_3 3 rfl rfl)
theorem dX5_init_75 : decode cX5_init 75 = .ok (.iconst 3, 1) := dk_6 (dk_at dksX5_init_3 4 rfl rfl)
theorem dX5_init_76 : decode cX5_init 76 = .ok (.iastore, 1) := dk_79 (dk_at dksX5_init_3 5 rfl rfl)
theorem dX5_init_77 : decode cX5_init 77 = .ok (.aload_n 0, 1) := dk_42 (dk_at dksX5_init_3 6 rfl rfl)
theorem dX5_init_78 : decode cX5_init 78 = .ok (.getfield 7, 3) := dk_180 0 7 (dk_at dksX5_init_3 7 rfl rfl)
theorem dX5_init_81 : decode cX5_init 81 = .ok (.iconst 3, 1) := dk_6 (dk_at dksX5_init_3 10 rfl rfl)
theorem dX5_init_82 : decode cX5_init 82 = .ok (.bipush 10, 2) := dk_16 10 (dk_at dksX5_init_3 11 rfl rfl)
theorem dX5_init_84 : decode cX5_init 84 = .ok (.iastore, 1) := dk_79 (dk_at dksX5_init_3 13 rfl rfl)
theorem dX5_init_85 : decode cX5_init 85 = .ok (.aload_n 0, 1) := dk_42 (dk_at dksX5_init_3 14 rfl rfl)
theorem dX5_init_86 : decode cX5_init 86 = .ok (.getfield 7, 3) := dk_180 0 7 (dk_at dksX5_init_3 15 rfl rfl)
theorem dX5_init_89 : decode cX5_init 89 = .ok (.iconst 4, 1) := dk_7 (dk_at dksX5_init_3 18 rfl rfl)
theorem dX5_init_90 : decode cX5_init 90 = .ok (.iconst 5, 1) := dk_8 (dk_at dksX5_init_3 19 rfl rfl)
theorem dX5_init_91 : decode cX5_init 91 = .ok (.iastore, 1) := dk_79 (dk_at dksX5_init_3 20 rfl rfl)
theorem dX5_init_92 : decode cX5_init 92 = .ok (.aload_n 0, 1) := dk_42 (dk_at dksX5_init_3 21 rfl rfl)
theorem dX5_init_93 : decode cX5_init 93 = .ok (.iconst 4, 1) := dk_7 (dk_at dksX5_init_3 22 rfl rfl)
theorem dX5_init_94 : decode cX5_init 94 = .ok (.invokevirtual 34, 3) := dk_182 0 34 (dk_at dksX5_init_4 0 rfl rfl)
theorem dX5_init_97 : decode cX5_init 97 = .ok (.return_, 1) := dk_177 (dk_at dksX5_init_4 3 rfl rfl)
abbrev cX5_begins : ByteArray := prog_11_method_16_code
def yX5_begins : MethodName := ⟨RX5, "begins", "(I)V"⟩
def dkwX5_begins_5 : List UInt8 := [180, 0, 7, 17, 0, 187, 6, 28, 104, 96, 16, 100, 79, 132, 2, 1, 167, 255, 234, 177]
abbrev dktX5_begins_5 : List UInt8 := dkwX5_begins_5 ++ []
def dkwX5_begins_4 : List UInt8 := [17, 0, 179, 28, 96, 28, 27, 112, 79, 132, 2, 1, 167, 255, 234, 3, 61, 28, 7, 162, 0, 23, 42]
abbrev dktX5_begins_4 : List UInt8 := dkwX5_begins_4 ++ dktX5_begins_5
def dkwX5_begins_3 : List UInt8 := [42, 28, 182, 0, 59, 132, 2, 1, 167, 255, 225, 3, 61, 28, 16, 8, 162, 0, 22, 42, 180, 0, 7]
abbrev dktX5_begins_3 : List UInt8 := dkwX5_begins_3 ++ dktX5_begins_4
def dkwX5_begins_2 : List UInt8 := [61, 28, 16, 8, 162, 0, 31, 42, 180, 0, 7, 16, 11, 8, 28, 104, 96, 8, 79, 42, 28, 182, 0, 56]
abbrev dktX5_begins_2 : List UInt8 := dkwX5_begins_2 ++ dktX5_begins_3
def dkwX5_begins_1 : List UInt8 := [180, 0, 7, 28, 46, 167, 0, 4, 3, 79, 132, 2, 1, 167, 255, 221, 42, 180, 0, 7, 3, 27, 79, 3]
abbrev dktX5_begins_1 : List UInt8 := dkwX5_begins_1 ++ dktX5_begins_2
def dkwX5_begins_0 : List UInt8 := [3, 61, 28, 17, 1, 231, 162, 0, 34, 42, 180, 0, 7, 28, 28, 5, 7, 184, 0, 49, 153, 0, 12, 42]
abbrev dktX5_begins_0 : List UInt8 := dkwX5_begins_0 ++ dktX5_begins_1
theorem dksX5_begins_0 : cX5_begins.data.toList.drop 0 = dktX5_begins_0 := by decide +kernel
theorem dksX5_begins_1 : cX5_begins.data.toList.drop 24 = dktX5_begins_1 := dk_seg dksX5_begins_0 24 rfl rfl
theorem dksX5_begins_2 : cX5_begins.data.toList.drop 48 = dktX5_begins_2 := dk_seg dksX5_begins_1 24 rfl rfl
theorem dksX5_begins_3 : cX5_begins.data.toList.drop 72 = dktX5_begins_3 := dk_seg dksX5_begins_2 24 rfl rfl
theorem dksX5_begins_4 : cX5_begins.data.toList.drop 95 = dktX5_begins_4 := dk_seg dksX5_begins_3 23 rfl rfl
theorem dksX5_begins_5 : cX5_begins.data.toList.drop 118 = dktX5_begins_5 := dk_seg dksX5_begins_4 23 rfl rfl
theorem dX5_begins_0 : decode cX5_begins 0 = .ok (.iconst 0, 1) := dk_3 (dk_at dksX5_begins_0 0 rfl rfl)
theorem dX5_begins_1 : decode cX5_begins 1 = .ok (.istore_n 2, 1) := dk_61 (dk_at dksX5_begins_0 1 rfl rfl)
theorem dX5_begins_2 : decode cX5_begins 2 = .ok (.iload_n 2, 1) := dk_28 (dk_at dksX5_begins_0 2 rfl rfl)
theorem dX5_begins_3 : decode cX5_begins 3 = .ok (.sipush 487, 3) := dk_17 1 231 (dk_at dksX5_begins_0 3 rfl rfl)
theorem dX5_begins_6 : decode cX5_begins 6 = .ok (.if_icmp .ge 34, 3) := dk_162 0 34 (dk_at dksX5_begins_0 6 rfl rfl)
theorem dX5_begins_9 : decode cX5_begins 9 = .ok (.aload_n 0, 1) := dk_42 (dk_at dksX5_begins_0 9 rfl rfl)
theorem dX5_begins_10 : decode cX5_begins 10 = .ok (.getfield 7, 3) := dk_180 0 7 (dk_at dksX5_begins_0 10 rfl rfl)
theorem dX5_begins_13 : decode cX5_begins 13 = .ok (.iload_n 2, 1) := dk_28 (dk_at dksX5_begins_0 13 rfl rfl)
theorem dX5_begins_14 : decode cX5_begins 14 = .ok (.iload_n 2, 1) := dk_28 (dk_at dksX5_begins_0 14 rfl rfl)
theorem dX5_begins_15 : decode cX5_begins 15 = .ok (.iconst 2, 1) := dk_5 (dk_at dksX5_begins_0 15 rfl rfl)
theorem dX5_begins_16 : decode cX5_begins 16 = .ok (.iconst 4, 1) := dk_7 (dk_at dksX5_begins_0 16 rfl rfl)
theorem dX5_begins_17 : decode cX5_begins 17 = .ok (.invokestatic 49, 3) := dk_184 0 49 (dk_at dksX5_begins_0 17 rfl rfl)
theorem dX5_begins_20 : decode cX5_begins 20 = .ok (.ifCond .eq 12, 3) := dk_153 0 12 (dk_at dksX5_begins_0 20 rfl rfl)
theorem dX5_begins_23 : decode cX5_begins 23 = .ok (.aload_n 0, 1) := dk_42 (dk_at dksX5_begins_0 23 rfl rfl)
theorem dX5_begins_24 : decode cX5_begins 24 = .ok (.getfield 7, 3) := dk_180 0 7 (dk_at dksX5_begins_1 0 rfl rfl)
theorem dX5_begins_27 : decode cX5_begins 27 = .ok (.iload_n 2, 1) := dk_28 (dk_at dksX5_begins_1 3 rfl rfl)
theorem dX5_begins_28 : decode cX5_begins 28 = .ok (.iaload, 1) := dk_46 (dk_at dksX5_begins_1 4 rfl rfl)
theorem dX5_begins_29 : decode cX5_begins 29 = .ok (.goto 4, 3) := dk_167 0 4 (dk_at dksX5_begins_1 5 rfl rfl)
theorem dX5_begins_32 : decode cX5_begins 32 = .ok (.iconst 0, 1) := dk_3 (dk_at dksX5_begins_1 8 rfl rfl)
theorem dX5_begins_33 : decode cX5_begins 33 = .ok (.iastore, 1) := dk_79 (dk_at dksX5_begins_1 9 rfl rfl)
theorem dX5_begins_34 : decode cX5_begins 34 = .ok (.iinc 2 1, 3) := dk_132 2 1 (dk_at dksX5_begins_1 10 rfl rfl)
theorem dX5_begins_37 : decode cX5_begins 37 = .ok (.goto (-35), 3) := dk_167 255 221 (dk_at dksX5_begins_1 13 rfl rfl)
theorem dX5_begins_40 : decode cX5_begins 40 = .ok (.aload_n 0, 1) := dk_42 (dk_at dksX5_begins_1 16 rfl rfl)
theorem dX5_begins_41 : decode cX5_begins 41 = .ok (.getfield 7, 3) := dk_180 0 7 (dk_at dksX5_begins_1 17 rfl rfl)
theorem dX5_begins_44 : decode cX5_begins 44 = .ok (.iconst 0, 1) := dk_3 (dk_at dksX5_begins_1 20 rfl rfl)
theorem dX5_begins_45 : decode cX5_begins 45 = .ok (.iload_n 1, 1) := dk_27 (dk_at dksX5_begins_1 21 rfl rfl)
theorem dX5_begins_46 : decode cX5_begins 46 = .ok (.iastore, 1) := dk_79 (dk_at dksX5_begins_1 22 rfl rfl)
theorem dX5_begins_47 : decode cX5_begins 47 = .ok (.iconst 0, 1) := dk_3 (dk_at dksX5_begins_1 23 rfl rfl)
theorem dX5_begins_48 : decode cX5_begins 48 = .ok (.istore_n 2, 1) := dk_61 (dk_at dksX5_begins_2 0 rfl rfl)
theorem dX5_begins_49 : decode cX5_begins 49 = .ok (.iload_n 2, 1) := dk_28 (dk_at dksX5_begins_2 1 rfl rfl)
theorem dX5_begins_50 : decode cX5_begins 50 = .ok (.bipush 8, 2) := dk_16 8 (dk_at dksX5_begins_2 2 rfl rfl)
theorem dX5_begins_52 : decode cX5_begins 52 = .ok (.if_icmp .ge 31, 3) := dk_162 0 31 (dk_at dksX5_begins_2 4 rfl rfl)
theorem dX5_begins_55 : decode cX5_begins 55 = .ok (.aload_n 0, 1) := dk_42 (dk_at dksX5_begins_2 7 rfl rfl)
theorem dX5_begins_56 : decode cX5_begins 56 = .ok (.getfield 7, 3) := dk_180 0 7 (dk_at dksX5_begins_2 8 rfl rfl)
theorem dX5_begins_59 : decode cX5_begins 59 = .ok (.bipush 11, 2) := dk_16 11 (dk_at dksX5_begins_2 11 rfl rfl)
theorem dX5_begins_61 : decode cX5_begins 61 = .ok (.iconst 5, 1) := dk_8 (dk_at dksX5_begins_2 13 rfl rfl)
theorem dX5_begins_62 : decode cX5_begins 62 = .ok (.iload_n 2, 1) := dk_28 (dk_at dksX5_begins_2 14 rfl rfl)
theorem dX5_begins_63 : decode cX5_begins 63 = .ok (.imul, 1) := dk_104 (dk_at dksX5_begins_2 15 rfl rfl)
theorem dX5_begins_64 : decode cX5_begins 64 = .ok (.iadd, 1) := dk_96 (dk_at dksX5_begins_2 16 rfl rfl)
theorem dX5_begins_65 : decode cX5_begins 65 = .ok (.iconst 5, 1) := dk_8 (dk_at dksX5_begins_2 17 rfl rfl)
theorem dX5_begins_66 : decode cX5_begins 66 = .ok (.iastore, 1) := dk_79 (dk_at dksX5_begins_2 18 rfl rfl)
theorem dX5_begins_67 : decode cX5_begins 67 = .ok (.aload_n 0, 1) := dk_42 (dk_at dksX5_begins_2 19 rfl rfl)
theorem dX5_begins_68 : decode cX5_begins 68 = .ok (.iload_n 2, 1) := dk_28 (dk_at dksX5_begins_2 20 rfl rfl)
theorem dX5_begins_69 : decode cX5_begins 69 = .ok (.invokevirtual 56, 3) := dk_182 0 56 (dk_at dksX5_begins_2 21 rfl rfl)
theorem dX5_begins_72 : decode cX5_begins 72 = .ok (.aload_n 0, 1) := dk_42 (dk_at dksX5_begins_3 0 rfl rfl)
theorem dX5_begins_73 : decode cX5_begins 73 = .ok (.iload_n 2, 1) := dk_28 (dk_at dksX5_begins_3 1 rfl rfl)
theorem dX5_begins_74 : decode cX5_begins 74 = .ok (.invokevirtual 59, 3) := dk_182 0 59 (dk_at dksX5_begins_3 2 rfl rfl)
theorem dX5_begins_77 : decode cX5_begins 77 = .ok (.iinc 2 1, 3) := dk_132 2 1 (dk_at dksX5_begins_3 5 rfl rfl)
theorem dX5_begins_80 : decode cX5_begins 80 = .ok (.goto (-31), 3) := dk_167 255 225 (dk_at dksX5_begins_3 8 rfl rfl)
theorem dX5_begins_83 : decode cX5_begins 83 = .ok (.iconst 0, 1) := dk_3 (dk_at dksX5_begins_3 11 rfl rfl)
theorem dX5_begins_84 : decode cX5_begins 84 = .ok (.istore_n 2, 1) := dk_61 (dk_at dksX5_begins_3 12 rfl rfl)
theorem dX5_begins_85 : decode cX5_begins 85 = .ok (.iload_n 2, 1) := dk_28 (dk_at dksX5_begins_3 13 rfl rfl)
theorem dX5_begins_86 : decode cX5_begins 86 = .ok (.bipush 8, 2) := dk_16 8 (dk_at dksX5_begins_3 14 rfl rfl)
theorem dX5_begins_88 : decode cX5_begins 88 = .ok (.if_icmp .ge 22, 3) := dk_162 0 22 (dk_at dksX5_begins_3 16 rfl rfl)
theorem dX5_begins_91 : decode cX5_begins 91 = .ok (.aload_n 0, 1) := dk_42 (dk_at dksX5_begins_3 19 rfl rfl)
theorem dX5_begins_92 : decode cX5_begins 92 = .ok (.getfield 7, 3) := dk_180 0 7 (dk_at dksX5_begins_3 20 rfl rfl)
theorem dX5_begins_95 : decode cX5_begins 95 = .ok (.sipush 179, 3) := dk_17 0 179 (dk_at dksX5_begins_4 0 rfl rfl)
theorem dX5_begins_98 : decode cX5_begins 98 = .ok (.iload_n 2, 1) := dk_28 (dk_at dksX5_begins_4 3 rfl rfl)
theorem dX5_begins_99 : decode cX5_begins 99 = .ok (.iadd, 1) := dk_96 (dk_at dksX5_begins_4 4 rfl rfl)
theorem dX5_begins_100 : decode cX5_begins 100 = .ok (.iload_n 2, 1) := dk_28 (dk_at dksX5_begins_4 5 rfl rfl)
theorem dX5_begins_101 : decode cX5_begins 101 = .ok (.iload_n 1, 1) := dk_27 (dk_at dksX5_begins_4 6 rfl rfl)
theorem dX5_begins_102 : decode cX5_begins 102 = .ok (.irem, 1) := dk_112 (dk_at dksX5_begins_4 7 rfl rfl)
theorem dX5_begins_103 : decode cX5_begins 103 = .ok (.iastore, 1) := dk_79 (dk_at dksX5_begins_4 8 rfl rfl)
theorem dX5_begins_104 : decode cX5_begins 104 = .ok (.iinc 2 1, 3) := dk_132 2 1 (dk_at dksX5_begins_4 9 rfl rfl)
theorem dX5_begins_107 : decode cX5_begins 107 = .ok (.goto (-22), 3) := dk_167 255 234 (dk_at dksX5_begins_4 12 rfl rfl)
theorem dX5_begins_110 : decode cX5_begins 110 = .ok (.iconst 0, 1) := dk_3 (dk_at dksX5_begins_4 15 rfl rfl)
theorem dX5_begins_111 : decode cX5_begins 111 = .ok (.istore_n 2, 1) := dk_61 (dk_at dksX5_begins_4 16 rfl rfl)
theorem dX5_begins_112 : decode cX5_begins 112 = .ok (.iload_n 2, 1) := dk_28 (dk_at dksX5_begins_4 17 rfl rfl)
theorem dX5_begins_113 : decode cX5_begins 113 = .ok (.iconst 4, 1) := dk_7 (dk_at dksX5_begins_4 18 rfl rfl)
theorem dX5_begins_114 : decode cX5_begins 114 = .ok (.if_icmp .ge 23, 3) := dk_162 0 23 (dk_at dksX5_begins_4 19 rfl rfl)
theorem dX5_begins_117 : decode cX5_begins 117 = .ok (.aload_n 0, 1) := dk_42 (dk_at dksX5_begins_4 22 rfl rfl)
theorem dX5_begins_118 : decode cX5_begins 118 = .ok (.getfield 7, 3) := dk_180 0 7 (dk_at dksX5_begins_5 0 rfl rfl)
theorem dX5_begins_121 : decode cX5_begins 121 = .ok (.sipush 187, 3) := dk_17 0 187 (dk_at dksX5_begins_5 3 rfl rfl)
theorem dX5_begins_124 : decode cX5_begins 124 = .ok (.iconst 3, 1) := dk_6 (dk_at dksX5_begins_5 6 rfl rfl)
theorem dX5_begins_125 : decode cX5_begins 125 = .ok (.iload_n 2, 1) := dk_28 (dk_at dksX5_begins_5 7 rfl rfl)
theorem dX5_begins_126 : decode cX5_begins 126 = .ok (.imul, 1) := dk_104 (dk_at dksX5_begins_5 8 rfl rfl)
theorem dX5_begins_127 : decode cX5_begins 127 = .ok (.iadd, 1) := dk_96 (dk_at dksX5_begins_5 9 rfl rfl)
theorem dX5_begins_128 : decode cX5_begins 128 = .ok (.bipush 100, 2) := dk_16 100 (dk_at dksX5_begins_5 10 rfl rfl)
theorem dX5_begins_130 : decode cX5_begins 130 = .ok (.iastore, 1) := dk_79 (dk_at dksX5_begins_5 12 rfl rfl)
theorem dX5_begins_131 : decode cX5_begins 131 = .ok (.iinc 2 1, 3) := dk_132 2 1 (dk_at dksX5_begins_5 13 rfl rfl)
theorem dX5_begins_134 : decode cX5_begins 134 = .ok (.goto (-22), 3) := dk_167 255 234 (dk_at dksX5_begins_5 16 rfl rfl)
theorem dX5_begins_137 : decode cX5_begins 137 = .ok (.return_, 1) := dk_177 (dk_at dksX5_begins_5 19 rfl rfl)
abbrev cX5_in : ByteArray := prog_11_method_3_code
def yX5_in : MethodName := ⟨RX5, "in", "(III)Z"⟩
def dkwX5_in_0 : List UInt8 := [26, 27, 161, 0, 12, 26, 28, 163, 0, 7, 4, 167, 0, 4, 3, 172]
abbrev dktX5_in_0 : List UInt8 := dkwX5_in_0 ++ []
theorem dksX5_in_0 : cX5_in.data.toList.drop 0 = dktX5_in_0 := by decide +kernel
theorem dX5_in_0 : decode cX5_in 0 = .ok (.iload_n 0, 1) := dk_26 (dk_at dksX5_in_0 0 rfl rfl)
theorem dX5_in_1 : decode cX5_in 1 = .ok (.iload_n 1, 1) := dk_27 (dk_at dksX5_in_0 1 rfl rfl)
theorem dX5_in_2 : decode cX5_in 2 = .ok (.if_icmp .lt 12, 3) := dk_161 0 12 (dk_at dksX5_in_0 2 rfl rfl)
theorem dX5_in_5 : decode cX5_in 5 = .ok (.iload_n 0, 1) := dk_26 (dk_at dksX5_in_0 5 rfl rfl)
theorem dX5_in_6 : decode cX5_in 6 = .ok (.iload_n 2, 1) := dk_28 (dk_at dksX5_in_0 6 rfl rfl)
theorem dX5_in_7 : decode cX5_in 7 = .ok (.if_icmp .gt 7, 3) := dk_163 0 7 (dk_at dksX5_in_0 7 rfl rfl)
theorem dX5_in_10 : decode cX5_in 10 = .ok (.iconst 1, 1) := dk_4 (dk_at dksX5_in_0 10 rfl rfl)
theorem dX5_in_11 : decode cX5_in 11 = .ok (.goto 4, 3) := dk_167 0 4 (dk_at dksX5_in_0 11 rfl rfl)
theorem dX5_in_14 : decode cX5_in 14 = .ok (.iconst 0, 1) := dk_3 (dk_at dksX5_in_0 14 rfl rfl)
theorem dX5_in_15 : decode cX5_in 15 = .ok (.ireturn, 1) := dk_172 (dk_at dksX5_in_0 15 rfl rfl)
abbrev cX5_startsAnew : ByteArray := prog_11_method_15_code
def yX5_startsAnew : MethodName := ⟨RX5, "startsAnew", "(I)V"⟩
def dkwX5_startsAnew_1 : List UInt8 := [28, 5, 96, 3, 79, 42, 180, 0, 7, 28, 6, 96, 3, 79, 42, 180, 0, 7, 28, 7, 96, 2, 79, 177]
abbrev dktX5_startsAnew_1 : List UInt8 := dkwX5_startsAnew_1 ++ []
def dkwX5_startsAnew_0 : List UInt8 := [16, 11, 8, 27, 104, 96, 61, 42, 180, 0, 7, 28, 4, 96, 42, 27, 182, 0, 53, 79, 42, 180, 0, 7]
abbrev dktX5_startsAnew_0 : List UInt8 := dkwX5_startsAnew_0 ++ dktX5_startsAnew_1
theorem dksX5_startsAnew_0 : cX5_startsAnew.data.toList.drop 0 = dktX5_startsAnew_0 := by decide +kernel
theorem dksX5_startsAnew_1 : cX5_startsAnew.data.toList.drop 24 = dktX5_startsAnew_1 := dk_seg dksX5_startsAnew_0 24 rfl rfl
theorem dX5_startsAnew_0 : decode cX5_startsAnew 0 = .ok (.bipush 11, 2) := dk_16 11 (dk_at dksX5_startsAnew_0 0 rfl rfl)
theorem dX5_startsAnew_2 : decode cX5_startsAnew 2 = .ok (.iconst 5, 1) := dk_8 (dk_at dksX5_startsAnew_0 2 rfl rfl)
theorem dX5_startsAnew_3 : decode cX5_startsAnew 3 = .ok (.iload_n 1, 1) := dk_27 (dk_at dksX5_startsAnew_0 3 rfl rfl)
theorem dX5_startsAnew_4 : decode cX5_startsAnew 4 = .ok (.imul, 1) := dk_104 (dk_at dksX5_startsAnew_0 4 rfl rfl)
theorem dX5_startsAnew_5 : decode cX5_startsAnew 5 = .ok (.iadd, 1) := dk_96 (dk_at dksX5_startsAnew_0 5 rfl rfl)
theorem dX5_startsAnew_6 : decode cX5_startsAnew 6 = .ok (.istore_n 2, 1) := dk_61 (dk_at dksX5_startsAnew_0 6 rfl rfl)
theorem dX5_startsAnew_7 : decode cX5_startsAnew 7 = .ok (.aload_n 0, 1) := dk_42 (dk_at dksX5_startsAnew_0 7 rfl rfl)
theorem dX5_startsAnew_8 : decode cX5_startsAnew 8 = .ok (.getfield 7, 3) := dk_180 0 7 (dk_at dksX5_startsAnew_0 8 rfl rfl)
theorem dX5_startsAnew_11 : decode cX5_startsAnew 11 = .ok (.iload_n 2, 1) := dk_28 (dk_at dksX5_startsAnew_0 11 rfl rfl)
theorem dX5_startsAnew_12 : decode cX5_startsAnew 12 = .ok (.iconst 1, 1) := dk_4 (dk_at dksX5_startsAnew_0 12 rfl rfl)
theorem dX5_startsAnew_13 : decode cX5_startsAnew 13 = .ok (.iadd, 1) := dk_96 (dk_at dksX5_startsAnew_0 13 rfl rfl)
theorem dX5_startsAnew_14 : decode cX5_startsAnew 14 = .ok (.aload_n 0, 1) := dk_42 (dk_at dksX5_startsAnew_0 14 rfl rfl)
theorem dX5_startsAnew_15 : decode cX5_startsAnew 15 = .ok (.iload_n 1, 1) := dk_27 (dk_at dksX5_startsAnew_0 15 rfl rfl)
theorem dX5_startsAnew_16 : decode cX5_startsAnew 16 = .ok (.invokevirtual 53, 3) := dk_182 0 53 (dk_at dksX5_startsAnew_0 16 rfl rfl)
theorem dX5_startsAnew_19 : decode cX5_startsAnew 19 = .ok (.iastore, 1) := dk_79 (dk_at dksX5_startsAnew_0 19 rfl rfl)
theorem dX5_startsAnew_20 : decode cX5_startsAnew 20 = .ok (.aload_n 0, 1) := dk_42 (dk_at dksX5_startsAnew_0 20 rfl rfl)
theorem dX5_startsAnew_21 : decode cX5_startsAnew 21 = .ok (.getfield 7, 3) := dk_180 0 7 (dk_at dksX5_startsAnew_0 21 rfl rfl)
theorem dX5_startsAnew_24 : decode cX5_startsAnew 24 = .ok (.iload_n 2, 1) := dk_28 (dk_at dksX5_startsAnew_1 0 rfl rfl)
theorem dX5_startsAnew_25 : decode cX5_startsAnew 25 = .ok (.iconst 2, 1) := dk_5 (dk_at dksX5_startsAnew_1 1 rfl rfl)
theorem dX5_startsAnew_26 : decode cX5_startsAnew 26 = .ok (.iadd, 1) := dk_96 (dk_at dksX5_startsAnew_1 2 rfl rfl)
theorem dX5_startsAnew_27 : decode cX5_startsAnew 27 = .ok (.iconst 0, 1) := dk_3 (dk_at dksX5_startsAnew_1 3 rfl rfl)
theorem dX5_startsAnew_28 : decode cX5_startsAnew 28 = .ok (.iastore, 1) := dk_79 (dk_at dksX5_startsAnew_1 4 rfl rfl)
theorem dX5_startsAnew_29 : decode cX5_startsAnew 29 = .ok (.aload_n 0, 1) := dk_42 (dk_at dksX5_startsAnew_1 5 rfl rfl)
theorem dX5_startsAnew_30 : decode cX5_startsAnew 30 = .ok (.getfield 7, 3) := dk_180 0 7 (dk_at dksX5_startsAnew_1 6 rfl rfl)
theorem dX5_startsAnew_33 : decode cX5_startsAnew 33 = .ok (.iload_n 2, 1) := dk_28 (dk_at dksX5_startsAnew_1 9 rfl rfl)
theorem dX5_startsAnew_34 : decode cX5_startsAnew 34 = .ok (.iconst 3, 1) := dk_6 (dk_at dksX5_startsAnew_1 10 rfl rfl)
theorem dX5_startsAnew_35 : decode cX5_startsAnew 35 = .ok (.iadd, 1) := dk_96 (dk_at dksX5_startsAnew_1 11 rfl rfl)
theorem dX5_startsAnew_36 : decode cX5_startsAnew 36 = .ok (.iconst 0, 1) := dk_3 (dk_at dksX5_startsAnew_1 12 rfl rfl)
theorem dX5_startsAnew_37 : decode cX5_startsAnew 37 = .ok (.iastore, 1) := dk_79 (dk_at dksX5_startsAnew_1 13 rfl rfl)
theorem dX5_startsAnew_38 : decode cX5_startsAnew 38 = .ok (.aload_n 0, 1) := dk_42 (dk_at dksX5_startsAnew_1 14 rfl rfl)
theorem dX5_startsAnew_39 : decode cX5_startsAnew 39 = .ok (.getfield 7, 3) := dk_180 0 7 (dk_at dksX5_startsAnew_1 15 rfl rfl)
theorem dX5_startsAnew_42 : decode cX5_startsAnew 42 = .ok (.iload_n 2, 1) := dk_28 (dk_at dksX5_startsAnew_1 18 rfl rfl)
theorem dX5_startsAnew_43 : decode cX5_startsAnew 43 = .ok (.iconst 4, 1) := dk_7 (dk_at dksX5_startsAnew_1 19 rfl rfl)
theorem dX5_startsAnew_44 : decode cX5_startsAnew 44 = .ok (.iadd, 1) := dk_96 (dk_at dksX5_startsAnew_1 20 rfl rfl)
theorem dX5_startsAnew_45 : decode cX5_startsAnew 45 = .ok (.iconst (-1), 1) := dk_2 (dk_at dksX5_startsAnew_1 21 rfl rfl)
theorem dX5_startsAnew_46 : decode cX5_startsAnew 46 = .ok (.iastore, 1) := dk_79 (dk_at dksX5_startsAnew_1 22 rfl rfl)
theorem dX5_startsAnew_47 : decode cX5_startsAnew 47 = .ok (.return_, 1) := dk_177 (dk_at dksX5_startsAnew_1 23 rfl rfl)
abbrev cX5_idOf : ByteArray := prog_11_method_8_code
def yX5_idOf : MethodName := ⟨RX5, "idOf", "(I)I"⟩
def dkwX5_idOf_0 : List UInt8 := [16, 10, 42, 180, 0, 7, 16, 11, 8, 27, 104, 96, 46, 104, 27, 96, 172]
abbrev dktX5_idOf_0 : List UInt8 := dkwX5_idOf_0 ++ []
theorem dksX5_idOf_0 : cX5_idOf.data.toList.drop 0 = dktX5_idOf_0 := by decide +kernel
theorem dX5_idOf_0 : decode cX5_idOf 0 = .ok (.bipush 10, 2) := dk_16 10 (dk_at dksX5_idOf_0 0 rfl rfl)
theorem dX5_idOf_2 : decode cX5_idOf 2 = .ok (.aload_n 0, 1) := dk_42 (dk_at dksX5_idOf_0 2 rfl rfl)
theorem dX5_idOf_3 : decode cX5_idOf 3 = .ok (.getfield 7, 3) := dk_180 0 7 (dk_at dksX5_idOf_0 3 rfl rfl)
theorem dX5_idOf_6 : decode cX5_idOf 6 = .ok (.bipush 11, 2) := dk_16 11 (dk_at dksX5_idOf_0 6 rfl rfl)
theorem dX5_idOf_8 : decode cX5_idOf 8 = .ok (.iconst 5, 1) := dk_8 (dk_at dksX5_idOf_0 8 rfl rfl)
theorem dX5_idOf_9 : decode cX5_idOf 9 = .ok (.iload_n 1, 1) := dk_27 (dk_at dksX5_idOf_0 9 rfl rfl)
theorem dX5_idOf_10 : decode cX5_idOf 10 = .ok (.imul, 1) := dk_104 (dk_at dksX5_idOf_0 10 rfl rfl)
theorem dX5_idOf_11 : decode cX5_idOf 11 = .ok (.iadd, 1) := dk_96 (dk_at dksX5_idOf_0 11 rfl rfl)
theorem dX5_idOf_12 : decode cX5_idOf 12 = .ok (.iaload, 1) := dk_46 (dk_at dksX5_idOf_0 12 rfl rfl)
theorem dX5_idOf_13 : decode cX5_idOf 13 = .ok (.imul, 1) := dk_104 (dk_at dksX5_idOf_0 13 rfl rfl)
theorem dX5_idOf_14 : decode cX5_idOf 14 = .ok (.iload_n 1, 1) := dk_27 (dk_at dksX5_idOf_0 14 rfl rfl)
theorem dX5_idOf_15 : decode cX5_idOf 15 = .ok (.iadd, 1) := dk_96 (dk_at dksX5_idOf_0 15 rfl rfl)
theorem dX5_idOf_16 : decode cX5_idOf 16 = .ok (.ireturn, 1) := dk_172 (dk_at dksX5_idOf_0 16 rfl rfl)
abbrev cX5_flushes : ByteArray := prog_11_method_17_code
def yX5_flushes : MethodName := ⟨RX5, "flushes", "(I)V"⟩
def dkwX5_flushes_1 : List UInt8 := [79, 132, 2, 1, 167, 255, 230, 177]
abbrev dktX5_flushes_1 : List UInt8 := dkwX5_flushes_1 ++ []
def dkwX5_flushes_0 : List UInt8 := [3, 61, 28, 16, 8, 162, 0, 26, 42, 180, 0, 7, 16, 51, 16, 16, 27, 104, 96, 5, 28, 104, 96, 2]
abbrev dktX5_flushes_0 : List UInt8 := dkwX5_flushes_0 ++ dktX5_flushes_1
theorem dksX5_flushes_0 : cX5_flushes.data.toList.drop 0 = dktX5_flushes_0 := by decide +kernel
theorem dksX5_flushes_1 : cX5_flushes.data.toList.drop 24 = dktX5_flushes_1 := dk_seg dksX5_flushes_0 24 rfl rfl
theorem dX5_flushes_0 : decode cX5_flushes 0 = .ok (.iconst 0, 1) := dk_3 (dk_at dksX5_flushes_0 0 rfl rfl)
theorem dX5_flushes_1 : decode cX5_flushes 1 = .ok (.istore_n 2, 1) := dk_61 (dk_at dksX5_flushes_0 1 rfl rfl)
theorem dX5_flushes_2 : decode cX5_flushes 2 = .ok (.iload_n 2, 1) := dk_28 (dk_at dksX5_flushes_0 2 rfl rfl)
theorem dX5_flushes_3 : decode cX5_flushes 3 = .ok (.bipush 8, 2) := dk_16 8 (dk_at dksX5_flushes_0 3 rfl rfl)
theorem dX5_flushes_5 : decode cX5_flushes 5 = .ok (.if_icmp .ge 26, 3) := dk_162 0 26 (dk_at dksX5_flushes_0 5 rfl rfl)
theorem dX5_flushes_8 : decode cX5_flushes 8 = .ok (.aload_n 0, 1) := dk_42 (dk_at dksX5_flushes_0 8 rfl rfl)
theorem dX5_flushes_9 : decode cX5_flushes 9 = .ok (.getfield 7, 3) := dk_180 0 7 (dk_at dksX5_flushes_0 9 rfl rfl)
theorem dX5_flushes_12 : decode cX5_flushes 12 = .ok (.bipush 51, 2) := dk_16 51 (dk_at dksX5_flushes_0 12 rfl rfl)
theorem dX5_flushes_14 : decode cX5_flushes 14 = .ok (.bipush 16, 2) := dk_16 16 (dk_at dksX5_flushes_0 14 rfl rfl)
theorem dX5_flushes_16 : decode cX5_flushes 16 = .ok (.iload_n 1, 1) := dk_27 (dk_at dksX5_flushes_0 16 rfl rfl)
theorem dX5_flushes_17 : decode cX5_flushes 17 = .ok (.imul, 1) := dk_104 (dk_at dksX5_flushes_0 17 rfl rfl)
theorem dX5_flushes_18 : decode cX5_flushes 18 = .ok (.iadd, 1) := dk_96 (dk_at dksX5_flushes_0 18 rfl rfl)
theorem dX5_flushes_19 : decode cX5_flushes 19 = .ok (.iconst 2, 1) := dk_5 (dk_at dksX5_flushes_0 19 rfl rfl)
theorem dX5_flushes_20 : decode cX5_flushes 20 = .ok (.iload_n 2, 1) := dk_28 (dk_at dksX5_flushes_0 20 rfl rfl)
theorem dX5_flushes_21 : decode cX5_flushes 21 = .ok (.imul, 1) := dk_104 (dk_at dksX5_flushes_0 21 rfl rfl)
theorem dX5_flushes_22 : decode cX5_flushes 22 = .ok (.iadd, 1) := dk_96 (dk_at dksX5_flushes_0 22 rfl rfl)
theorem dX5_flushes_23 : decode cX5_flushes 23 = .ok (.iconst (-1), 1) := dk_2 (dk_at dksX5_flushes_0 23 rfl rfl)
theorem dX5_flushes_24 : decode cX5_flushes 24 = .ok (.iastore, 1) := dk_79 (dk_at dksX5_flushes_1 0 rfl rfl)
theorem dX5_flushes_25 : decode cX5_flushes 25 = .ok (.iinc 2 1, 3) := dk_132 2 1 (dk_at dksX5_flushes_1 1 rfl rfl)
theorem dX5_flushes_28 : decode cX5_flushes 28 = .ok (.goto (-26), 3) := dk_167 255 230 (dk_at dksX5_flushes_1 4 rfl rfl)
theorem dX5_flushes_31 : decode cX5_flushes 31 = .ok (.return_, 1) := dk_177 (dk_at dksX5_flushes_1 7 rfl rfl)
abbrev cX5_thrown : ByteArray := prog_11_method_2_code
def yX5_thrown : MethodName := ⟨RX5, "thrown", "()I"⟩
theorem dX5_thrown_0 : decode cX5_thrown 0 = .ok (.aload_n 0, 1) := by decide +kernel
theorem dX5_thrown_1 : decode cX5_thrown 1 = .ok (.getfield 38, 3) := by decide +kernel
theorem dX5_thrown_4 : decode cX5_thrown 4 = .ok (.ireturn, 1) := by decide +kernel
abbrev cX5_setBridges : ByteArray := prog_11_method_22_code
def yX5_setBridges : MethodName := ⟨RX5, "setBridges", "(I)I"⟩
def dkwX5_setBridges_1 : List UInt8 := [3, 46, 61, 42, 27, 182, 0, 34, 42, 28, 182, 0, 76, 172]
abbrev dktX5_setBridges_1 : List UInt8 := dkwX5_setBridges_1 ++ []
def dkwX5_setBridges_0 : List UInt8 := [27, 5, 16, 8, 184, 0, 49, 154, 0, 9, 42, 4, 182, 0, 70, 172, 42, 182, 0, 73, 42, 180, 0, 7]
abbrev dktX5_setBridges_0 : List UInt8 := dkwX5_setBridges_0 ++ dktX5_setBridges_1
theorem dksX5_setBridges_0 : cX5_setBridges.data.toList.drop 0 = dktX5_setBridges_0 := by decide +kernel
theorem dksX5_setBridges_1 : cX5_setBridges.data.toList.drop 24 = dktX5_setBridges_1 := dk_seg dksX5_setBridges_0 24 rfl rfl
theorem dX5_setBridges_0 : decode cX5_setBridges 0 = .ok (.iload_n 1, 1) := dk_27 (dk_at dksX5_setBridges_0 0 rfl rfl)
theorem dX5_setBridges_1 : decode cX5_setBridges 1 = .ok (.iconst 2, 1) := dk_5 (dk_at dksX5_setBridges_0 1 rfl rfl)
theorem dX5_setBridges_2 : decode cX5_setBridges 2 = .ok (.bipush 8, 2) := dk_16 8 (dk_at dksX5_setBridges_0 2 rfl rfl)
theorem dX5_setBridges_4 : decode cX5_setBridges 4 = .ok (.invokestatic 49, 3) := dk_184 0 49 (dk_at dksX5_setBridges_0 4 rfl rfl)
theorem dX5_setBridges_7 : decode cX5_setBridges 7 = .ok (.ifCond .ne 9, 3) := dk_154 0 9 (dk_at dksX5_setBridges_0 7 rfl rfl)
theorem dX5_setBridges_10 : decode cX5_setBridges 10 = .ok (.aload_n 0, 1) := dk_42 (dk_at dksX5_setBridges_0 10 rfl rfl)
theorem dX5_setBridges_11 : decode cX5_setBridges 11 = .ok (.iconst 1, 1) := dk_4 (dk_at dksX5_setBridges_0 11 rfl rfl)
theorem dX5_setBridges_12 : decode cX5_setBridges 12 = .ok (.invokevirtual 70, 3) := dk_182 0 70 (dk_at dksX5_setBridges_0 12 rfl rfl)
theorem dX5_setBridges_15 : decode cX5_setBridges 15 = .ok (.ireturn, 1) := dk_172 (dk_at dksX5_setBridges_0 15 rfl rfl)
theorem dX5_setBridges_16 : decode cX5_setBridges 16 = .ok (.aload_n 0, 1) := dk_42 (dk_at dksX5_setBridges_0 16 rfl rfl)
theorem dX5_setBridges_17 : decode cX5_setBridges 17 = .ok (.invokevirtual 73, 3) := dk_182 0 73 (dk_at dksX5_setBridges_0 17 rfl rfl)
theorem dX5_setBridges_20 : decode cX5_setBridges 20 = .ok (.aload_n 0, 1) := dk_42 (dk_at dksX5_setBridges_0 20 rfl rfl)
theorem dX5_setBridges_21 : decode cX5_setBridges 21 = .ok (.getfield 7, 3) := dk_180 0 7 (dk_at dksX5_setBridges_0 21 rfl rfl)
theorem dX5_setBridges_24 : decode cX5_setBridges 24 = .ok (.iconst 0, 1) := dk_3 (dk_at dksX5_setBridges_1 0 rfl rfl)
theorem dX5_setBridges_25 : decode cX5_setBridges 25 = .ok (.iaload, 1) := dk_46 (dk_at dksX5_setBridges_1 1 rfl rfl)
theorem dX5_setBridges_26 : decode cX5_setBridges 26 = .ok (.istore_n 2, 1) := dk_61 (dk_at dksX5_setBridges_1 2 rfl rfl)
theorem dX5_setBridges_27 : decode cX5_setBridges 27 = .ok (.aload_n 0, 1) := dk_42 (dk_at dksX5_setBridges_1 3 rfl rfl)
theorem dX5_setBridges_28 : decode cX5_setBridges 28 = .ok (.iload_n 1, 1) := dk_27 (dk_at dksX5_setBridges_1 4 rfl rfl)
theorem dX5_setBridges_29 : decode cX5_setBridges 29 = .ok (.invokevirtual 34, 3) := dk_182 0 34 (dk_at dksX5_setBridges_1 5 rfl rfl)
theorem dX5_setBridges_32 : decode cX5_setBridges 32 = .ok (.aload_n 0, 1) := dk_42 (dk_at dksX5_setBridges_1 8 rfl rfl)
theorem dX5_setBridges_33 : decode cX5_setBridges 33 = .ok (.iload_n 2, 1) := dk_28 (dk_at dksX5_setBridges_1 9 rfl rfl)
theorem dX5_setBridges_34 : decode cX5_setBridges 34 = .ok (.invokevirtual 76, 3) := dk_182 0 76 (dk_at dksX5_setBridges_1 10 rfl rfl)
theorem dX5_setBridges_37 : decode cX5_setBridges 37 = .ok (.ireturn, 1) := dk_172 (dk_at dksX5_setBridges_1 13 rfl rfl)
abbrev cX5_fails : ByteArray := prog_11_method_4_code
def yX5_fails : MethodName := ⟨RX5, "fails", "(I)I"⟩
def dkwX5_fails_0 : List UInt8 := [42, 27, 181, 0, 38, 3, 172]
abbrev dktX5_fails_0 : List UInt8 := dkwX5_fails_0 ++ []
theorem dksX5_fails_0 : cX5_fails.data.toList.drop 0 = dktX5_fails_0 := by decide +kernel
theorem dX5_fails_0 : decode cX5_fails 0 = .ok (.aload_n 0, 1) := dk_42 (dk_at dksX5_fails_0 0 rfl rfl)
theorem dX5_fails_1 : decode cX5_fails 1 = .ok (.iload_n 1, 1) := dk_27 (dk_at dksX5_fails_0 1 rfl rfl)
theorem dX5_fails_2 : decode cX5_fails 2 = .ok (.putfield 38, 3) := dk_181 0 38 (dk_at dksX5_fails_0 2 rfl rfl)
theorem dX5_fails_5 : decode cX5_fails 5 = .ok (.iconst 0, 1) := dk_3 (dk_at dksX5_fails_0 5 rfl rfl)
theorem dX5_fails_6 : decode cX5_fails 6 = .ok (.ireturn, 1) := dk_172 (dk_at dksX5_fails_0 6 rfl rfl)
abbrev cX5_hold : ByteArray := prog_11_method_6_code
def yX5_hold : MethodName := ⟨RX5, "hold", "()V"⟩
def dkwX5_hold_1 : List UInt8 := [167, 255, 234, 177]
abbrev dktX5_hold_1 : List UInt8 := dkwX5_hold_1 ++ []
def dkwX5_hold_0 : List UInt8 := [3, 60, 27, 17, 1, 231, 162, 0, 21, 42, 180, 0, 16, 27, 42, 180, 0, 7, 27, 46, 79, 132, 1, 1]
abbrev dktX5_hold_0 : List UInt8 := dkwX5_hold_0 ++ dktX5_hold_1
theorem dksX5_hold_0 : cX5_hold.data.toList.drop 0 = dktX5_hold_0 := by decide +kernel
theorem dksX5_hold_1 : cX5_hold.data.toList.drop 24 = dktX5_hold_1 := dk_seg dksX5_hold_0 24 rfl rfl
theorem dX5_hold_0 : decode cX5_hold 0 = .ok (.iconst 0, 1) := dk_3 (dk_at dksX5_hold_0 0 rfl rfl)
theorem dX5_hold_1 : decode cX5_hold 1 = .ok (.istore_n 1, 1) := dk_60 (dk_at dksX5_hold_0 1 rfl rfl)
theorem dX5_hold_2 : decode cX5_hold 2 = .ok (.iload_n 1, 1) := dk_27 (dk_at dksX5_hold_0 2 rfl rfl)
theorem dX5_hold_3 : decode cX5_hold 3 = .ok (.sipush 487, 3) := dk_17 1 231 (dk_at dksX5_hold_0 3 rfl rfl)
theorem dX5_hold_6 : decode cX5_hold 6 = .ok (.if_icmp .ge 21, 3) := dk_162 0 21 (dk_at dksX5_hold_0 6 rfl rfl)
theorem dX5_hold_9 : decode cX5_hold 9 = .ok (.aload_n 0, 1) := dk_42 (dk_at dksX5_hold_0 9 rfl rfl)
theorem dX5_hold_10 : decode cX5_hold 10 = .ok (.getfield 16, 3) := dk_180 0 16 (dk_at dksX5_hold_0 10 rfl rfl)
theorem dX5_hold_13 : decode cX5_hold 13 = .ok (.iload_n 1, 1) := dk_27 (dk_at dksX5_hold_0 13 rfl rfl)
theorem dX5_hold_14 : decode cX5_hold 14 = .ok (.aload_n 0, 1) := dk_42 (dk_at dksX5_hold_0 14 rfl rfl)
theorem dX5_hold_15 : decode cX5_hold 15 = .ok (.getfield 7, 3) := dk_180 0 7 (dk_at dksX5_hold_0 15 rfl rfl)
theorem dX5_hold_18 : decode cX5_hold 18 = .ok (.iload_n 1, 1) := dk_27 (dk_at dksX5_hold_0 18 rfl rfl)
theorem dX5_hold_19 : decode cX5_hold 19 = .ok (.iaload, 1) := dk_46 (dk_at dksX5_hold_0 19 rfl rfl)
theorem dX5_hold_20 : decode cX5_hold 20 = .ok (.iastore, 1) := dk_79 (dk_at dksX5_hold_0 20 rfl rfl)
theorem dX5_hold_21 : decode cX5_hold 21 = .ok (.iinc 1 1, 3) := dk_132 1 1 (dk_at dksX5_hold_0 21 rfl rfl)
theorem dX5_hold_24 : decode cX5_hold 24 = .ok (.goto (-22), 3) := dk_167 255 234 (dk_at dksX5_hold_1 0 rfl rfl)
theorem dX5_hold_27 : decode cX5_hold 27 = .ok (.return_, 1) := dk_177 (dk_at dksX5_hold_1 3 rfl rfl)
abbrev cX5_ends : ByteArray := prog_11_method_7_code
def yX5_ends : MethodName := ⟨RX5, "ends", "(I)I"⟩
def dkwX5_ends_4 : List UInt8 := [181, 0, 42, 42, 27, 182, 0, 45, 172]
abbrev dktX5_ends_4 : List UInt8 := dkwX5_ends_4 ++ []
def dkwX5_ends_3 : List UInt8 := [28, 96, 42, 180, 0, 16, 28, 46, 79, 132, 2, 1, 167, 255, 225, 42, 89, 180, 0, 42, 4, 96]
abbrev dktX5_ends_3 : List UInt8 := dkwX5_ends_3 ++ dktX5_ends_4
def dkwX5_ends_2 : List UInt8 := [181, 0, 42, 3, 61, 28, 17, 1, 231, 162, 0, 30, 42, 180, 0, 13, 17, 1, 231, 42, 180, 0, 42, 104]
abbrev dktX5_ends_2 : List UInt8 := dkwX5_ends_2 ++ dktX5_ends_3
def dkwX5_ends_1 : List UInt8 := [180, 0, 13, 28, 17, 1, 231, 96, 46, 79, 132, 2, 1, 167, 255, 230, 42, 89, 180, 0, 42, 4, 100]
abbrev dktX5_ends_1 : List UInt8 := dkwX5_ends_1 ++ dktX5_ends_2
def dkwX5_ends_0 : List UInt8 := [42, 180, 0, 42, 6, 160, 0, 44, 3, 61, 28, 17, 3, 206, 162, 0, 25, 42, 180, 0, 13, 28, 42]
abbrev dktX5_ends_0 : List UInt8 := dkwX5_ends_0 ++ dktX5_ends_1
theorem dksX5_ends_0 : cX5_ends.data.toList.drop 0 = dktX5_ends_0 := by decide +kernel
theorem dksX5_ends_1 : cX5_ends.data.toList.drop 23 = dktX5_ends_1 := dk_seg dksX5_ends_0 23 rfl rfl
theorem dksX5_ends_2 : cX5_ends.data.toList.drop 46 = dktX5_ends_2 := dk_seg dksX5_ends_1 23 rfl rfl
theorem dksX5_ends_3 : cX5_ends.data.toList.drop 70 = dktX5_ends_3 := dk_seg dksX5_ends_2 24 rfl rfl
theorem dksX5_ends_4 : cX5_ends.data.toList.drop 92 = dktX5_ends_4 := dk_seg dksX5_ends_3 22 rfl rfl
theorem dX5_ends_0 : decode cX5_ends 0 = .ok (.aload_n 0, 1) := dk_42 (dk_at dksX5_ends_0 0 rfl rfl)
theorem dX5_ends_1 : decode cX5_ends 1 = .ok (.getfield 42, 3) := dk_180 0 42 (dk_at dksX5_ends_0 1 rfl rfl)
theorem dX5_ends_4 : decode cX5_ends 4 = .ok (.iconst 3, 1) := dk_6 (dk_at dksX5_ends_0 4 rfl rfl)
theorem dX5_ends_5 : decode cX5_ends 5 = .ok (.if_icmp .ne 44, 3) := dk_160 0 44 (dk_at dksX5_ends_0 5 rfl rfl)
theorem dX5_ends_8 : decode cX5_ends 8 = .ok (.iconst 0, 1) := dk_3 (dk_at dksX5_ends_0 8 rfl rfl)
theorem dX5_ends_9 : decode cX5_ends 9 = .ok (.istore_n 2, 1) := dk_61 (dk_at dksX5_ends_0 9 rfl rfl)
theorem dX5_ends_10 : decode cX5_ends 10 = .ok (.iload_n 2, 1) := dk_28 (dk_at dksX5_ends_0 10 rfl rfl)
theorem dX5_ends_11 : decode cX5_ends 11 = .ok (.sipush 974, 3) := dk_17 3 206 (dk_at dksX5_ends_0 11 rfl rfl)
theorem dX5_ends_14 : decode cX5_ends 14 = .ok (.if_icmp .ge 25, 3) := dk_162 0 25 (dk_at dksX5_ends_0 14 rfl rfl)
theorem dX5_ends_17 : decode cX5_ends 17 = .ok (.aload_n 0, 1) := dk_42 (dk_at dksX5_ends_0 17 rfl rfl)
theorem dX5_ends_18 : decode cX5_ends 18 = .ok (.getfield 13, 3) := dk_180 0 13 (dk_at dksX5_ends_0 18 rfl rfl)
theorem dX5_ends_21 : decode cX5_ends 21 = .ok (.iload_n 2, 1) := dk_28 (dk_at dksX5_ends_0 21 rfl rfl)
theorem dX5_ends_22 : decode cX5_ends 22 = .ok (.aload_n 0, 1) := dk_42 (dk_at dksX5_ends_0 22 rfl rfl)
theorem dX5_ends_23 : decode cX5_ends 23 = .ok (.getfield 13, 3) := dk_180 0 13 (dk_at dksX5_ends_1 0 rfl rfl)
theorem dX5_ends_26 : decode cX5_ends 26 = .ok (.iload_n 2, 1) := dk_28 (dk_at dksX5_ends_1 3 rfl rfl)
theorem dX5_ends_27 : decode cX5_ends 27 = .ok (.sipush 487, 3) := dk_17 1 231 (dk_at dksX5_ends_1 4 rfl rfl)
theorem dX5_ends_30 : decode cX5_ends 30 = .ok (.iadd, 1) := dk_96 (dk_at dksX5_ends_1 7 rfl rfl)
theorem dX5_ends_31 : decode cX5_ends 31 = .ok (.iaload, 1) := dk_46 (dk_at dksX5_ends_1 8 rfl rfl)
theorem dX5_ends_32 : decode cX5_ends 32 = .ok (.iastore, 1) := dk_79 (dk_at dksX5_ends_1 9 rfl rfl)
theorem dX5_ends_33 : decode cX5_ends 33 = .ok (.iinc 2 1, 3) := dk_132 2 1 (dk_at dksX5_ends_1 10 rfl rfl)
theorem dX5_ends_36 : decode cX5_ends 36 = .ok (.goto (-26), 3) := dk_167 255 230 (dk_at dksX5_ends_1 13 rfl rfl)
theorem dX5_ends_39 : decode cX5_ends 39 = .ok (.aload_n 0, 1) := dk_42 (dk_at dksX5_ends_1 16 rfl rfl)
theorem dX5_ends_40 : decode cX5_ends 40 = .ok (.dup, 1) := dk_89 (dk_at dksX5_ends_1 17 rfl rfl)
theorem dX5_ends_41 : decode cX5_ends 41 = .ok (.getfield 42, 3) := dk_180 0 42 (dk_at dksX5_ends_1 18 rfl rfl)
theorem dX5_ends_44 : decode cX5_ends 44 = .ok (.iconst 1, 1) := dk_4 (dk_at dksX5_ends_1 21 rfl rfl)
theorem dX5_ends_45 : decode cX5_ends 45 = .ok (.isub, 1) := dk_100 (dk_at dksX5_ends_1 22 rfl rfl)
theorem dX5_ends_46 : decode cX5_ends 46 = .ok (.putfield 42, 3) := dk_181 0 42 (dk_at dksX5_ends_2 0 rfl rfl)
theorem dX5_ends_49 : decode cX5_ends 49 = .ok (.iconst 0, 1) := dk_3 (dk_at dksX5_ends_2 3 rfl rfl)
theorem dX5_ends_50 : decode cX5_ends 50 = .ok (.istore_n 2, 1) := dk_61 (dk_at dksX5_ends_2 4 rfl rfl)
theorem dX5_ends_51 : decode cX5_ends 51 = .ok (.iload_n 2, 1) := dk_28 (dk_at dksX5_ends_2 5 rfl rfl)
theorem dX5_ends_52 : decode cX5_ends 52 = .ok (.sipush 487, 3) := dk_17 1 231 (dk_at dksX5_ends_2 6 rfl rfl)
theorem dX5_ends_55 : decode cX5_ends 55 = .ok (.if_icmp .ge 30, 3) := dk_162 0 30 (dk_at dksX5_ends_2 9 rfl rfl)
theorem dX5_ends_58 : decode cX5_ends 58 = .ok (.aload_n 0, 1) := dk_42 (dk_at dksX5_ends_2 12 rfl rfl)
theorem dX5_ends_59 : decode cX5_ends 59 = .ok (.getfield 13, 3) := dk_180 0 13 (dk_at dksX5_ends_2 13 rfl rfl)
theorem dX5_ends_62 : decode cX5_ends 62 = .ok (.sipush 487, 3) := dk_17 1 231 (dk_at dksX5_ends_2 16 rfl rfl)
theorem dX5_ends_65 : decode cX5_ends 65 = .ok (.aload_n 0, 1) := dk_42 (dk_at dksX5_ends_2 19 rfl rfl)
theorem dX5_ends_66 : decode cX5_ends 66 = .ok (.getfield 42, 3) := dk_180 0 42 (dk_at dksX5_ends_2 20 rfl rfl)
theorem dX5_ends_69 : decode cX5_ends 69 = .ok (.imul, 1) := dk_104 (dk_at dksX5_ends_2 23 rfl rfl)
theorem dX5_ends_70 : decode cX5_ends 70 = .ok (.iload_n 2, 1) := dk_28 (dk_at dksX5_ends_3 0 rfl rfl)
theorem dX5_ends_71 : decode cX5_ends 71 = .ok (.iadd, 1) := dk_96 (dk_at dksX5_ends_3 1 rfl rfl)
theorem dX5_ends_72 : decode cX5_ends 72 = .ok (.aload_n 0, 1) := dk_42 (dk_at dksX5_ends_3 2 rfl rfl)
theorem dX5_ends_73 : decode cX5_ends 73 = .ok (.getfield 16, 3) := dk_180 0 16 (dk_at dksX5_ends_3 3 rfl rfl)
theorem dX5_ends_76 : decode cX5_ends 76 = .ok (.iload_n 2, 1) := dk_28 (dk_at dksX5_ends_3 6 rfl rfl)
theorem dX5_ends_77 : decode cX5_ends 77 = .ok (.iaload, 1) := dk_46 (dk_at dksX5_ends_3 7 rfl rfl)
theorem dX5_ends_78 : decode cX5_ends 78 = .ok (.iastore, 1) := dk_79 (dk_at dksX5_ends_3 8 rfl rfl)
theorem dX5_ends_79 : decode cX5_ends 79 = .ok (.iinc 2 1, 3) := dk_132 2 1 (dk_at dksX5_ends_3 9 rfl rfl)
theorem dX5_ends_82 : decode cX5_ends 82 = .ok (.goto (-31), 3) := dk_167 255 225 (dk_at dksX5_ends_3 12 rfl rfl)
theorem dX5_ends_85 : decode cX5_ends 85 = .ok (.aload_n 0, 1) := dk_42 (dk_at dksX5_ends_3 15 rfl rfl)
theorem dX5_ends_86 : decode cX5_ends 86 = .ok (.dup, 1) := dk_89 (dk_at dksX5_ends_3 16 rfl rfl)
theorem dX5_ends_87 : decode cX5_ends 87 = .ok (.getfield 42, 3) := dk_180 0 42 (dk_at dksX5_ends_3 17 rfl rfl)
theorem dX5_ends_90 : decode cX5_ends 90 = .ok (.iconst 1, 1) := dk_4 (dk_at dksX5_ends_3 20 rfl rfl)
theorem dX5_ends_91 : decode cX5_ends 91 = .ok (.iadd, 1) := dk_96 (dk_at dksX5_ends_3 21 rfl rfl)
theorem dX5_ends_92 : decode cX5_ends 92 = .ok (.putfield 42, 3) := dk_181 0 42 (dk_at dksX5_ends_4 0 rfl rfl)
theorem dX5_ends_95 : decode cX5_ends 95 = .ok (.aload_n 0, 1) := dk_42 (dk_at dksX5_ends_4 3 rfl rfl)
theorem dX5_ends_96 : decode cX5_ends 96 = .ok (.iload_n 1, 1) := dk_27 (dk_at dksX5_ends_4 4 rfl rfl)
theorem dX5_ends_97 : decode cX5_ends 97 = .ok (.invokevirtual 45, 3) := dk_182 0 45 (dk_at dksX5_ends_4 5 rfl rfl)
theorem dX5_ends_100 : decode cX5_ends 100 = .ok (.ireturn, 1) := dk_172 (dk_at dksX5_ends_4 8 rfl rfl)
abbrev cX5_tells : ByteArray := prog_11_method_5_code
def yX5_tells : MethodName := ⟨RX5, "tells", "(I)I"⟩
def dkwX5_tells_0 : List UInt8 := [42, 3, 181, 0, 38, 27, 172]
abbrev dktX5_tells_0 : List UInt8 := dkwX5_tells_0 ++ []
theorem dksX5_tells_0 : cX5_tells.data.toList.drop 0 = dktX5_tells_0 := by decide +kernel
theorem dX5_tells_0 : decode cX5_tells 0 = .ok (.aload_n 0, 1) := dk_42 (dk_at dksX5_tells_0 0 rfl rfl)
theorem dX5_tells_1 : decode cX5_tells 1 = .ok (.iconst 0, 1) := dk_3 (dk_at dksX5_tells_0 1 rfl rfl)
theorem dX5_tells_2 : decode cX5_tells 2 = .ok (.putfield 38, 3) := dk_181 0 38 (dk_at dksX5_tells_0 2 rfl rfl)
theorem dX5_tells_5 : decode cX5_tells 5 = .ok (.iload_n 1, 1) := dk_27 (dk_at dksX5_tells_0 5 rfl rfl)
theorem dX5_tells_6 : decode cX5_tells 6 = .ok (.ireturn, 1) := dk_172 (dk_at dksX5_tells_0 6 rfl rfl)
abbrev cX5_setTimes : ByteArray := prog_11_method_23_code
def yX5_setTimes : MethodName := ⟨RX5, "setTimes", "(III)I"⟩
def dkwX5_setTimes_3 : List UInt8 := [182, 0, 76, 172]
abbrev dktX5_setTimes_3 : List UInt8 := dkwX5_setTimes_3 ++ []
def dkwX5_setTimes_2 : List UInt8 := [42, 180, 0, 7, 5, 27, 79, 42, 180, 0, 7, 6, 28, 79, 42, 180, 0, 7, 7, 29, 79, 42, 21, 4]
abbrev dktX5_setTimes_2 : List UInt8 := dkwX5_setTimes_2 ++ dktX5_setTimes_3
def dkwX5_setTimes_1 : List UInt8 := [184, 0, 49, 154, 0, 9, 42, 4, 182, 0, 70, 172, 42, 182, 0, 73, 42, 180, 0, 7, 6, 46, 54, 4]
abbrev dktX5_setTimes_1 : List UInt8 := dkwX5_setTimes_1 ++ dktX5_setTimes_2
def dkwX5_setTimes_0 : List UInt8 := [27, 4, 16, 20, 184, 0, 49, 153, 0, 23, 28, 8, 16, 100, 184, 0, 49, 153, 0, 13, 29, 3, 16, 100]
abbrev dktX5_setTimes_0 : List UInt8 := dkwX5_setTimes_0 ++ dktX5_setTimes_1
theorem dksX5_setTimes_0 : cX5_setTimes.data.toList.drop 0 = dktX5_setTimes_0 := by decide +kernel
theorem dksX5_setTimes_1 : cX5_setTimes.data.toList.drop 24 = dktX5_setTimes_1 := dk_seg dksX5_setTimes_0 24 rfl rfl
theorem dksX5_setTimes_2 : cX5_setTimes.data.toList.drop 48 = dktX5_setTimes_2 := dk_seg dksX5_setTimes_1 24 rfl rfl
theorem dksX5_setTimes_3 : cX5_setTimes.data.toList.drop 72 = dktX5_setTimes_3 := dk_seg dksX5_setTimes_2 24 rfl rfl
theorem dX5_setTimes_0 : decode cX5_setTimes 0 = .ok (.iload_n 1, 1) := dk_27 (dk_at dksX5_setTimes_0 0 rfl rfl)
theorem dX5_setTimes_1 : decode cX5_setTimes 1 = .ok (.iconst 1, 1) := dk_4 (dk_at dksX5_setTimes_0 1 rfl rfl)
theorem dX5_setTimes_2 : decode cX5_setTimes 2 = .ok (.bipush 20, 2) := dk_16 20 (dk_at dksX5_setTimes_0 2 rfl rfl)
theorem dX5_setTimes_4 : decode cX5_setTimes 4 = .ok (.invokestatic 49, 3) := dk_184 0 49 (dk_at dksX5_setTimes_0 4 rfl rfl)
theorem dX5_setTimes_7 : decode cX5_setTimes 7 = .ok (.ifCond .eq 23, 3) := dk_153 0 23 (dk_at dksX5_setTimes_0 7 rfl rfl)
theorem dX5_setTimes_10 : decode cX5_setTimes 10 = .ok (.iload_n 2, 1) := dk_28 (dk_at dksX5_setTimes_0 10 rfl rfl)
theorem dX5_setTimes_11 : decode cX5_setTimes 11 = .ok (.iconst 5, 1) := dk_8 (dk_at dksX5_setTimes_0 11 rfl rfl)
theorem dX5_setTimes_12 : decode cX5_setTimes 12 = .ok (.bipush 100, 2) := dk_16 100 (dk_at dksX5_setTimes_0 12 rfl rfl)
theorem dX5_setTimes_14 : decode cX5_setTimes 14 = .ok (.invokestatic 49, 3) := dk_184 0 49 (dk_at dksX5_setTimes_0 14 rfl rfl)
theorem dX5_setTimes_17 : decode cX5_setTimes 17 = .ok (.ifCond .eq 13, 3) := dk_153 0 13 (dk_at dksX5_setTimes_0 17 rfl rfl)
theorem dX5_setTimes_20 : decode cX5_setTimes 20 = .ok (.iload_n 3, 1) := dk_29 (dk_at dksX5_setTimes_0 20 rfl rfl)
theorem dX5_setTimes_21 : decode cX5_setTimes 21 = .ok (.iconst 0, 1) := dk_3 (dk_at dksX5_setTimes_0 21 rfl rfl)
theorem dX5_setTimes_22 : decode cX5_setTimes 22 = .ok (.bipush 100, 2) := dk_16 100 (dk_at dksX5_setTimes_0 22 rfl rfl)
theorem dX5_setTimes_24 : decode cX5_setTimes 24 = .ok (.invokestatic 49, 3) := dk_184 0 49 (dk_at dksX5_setTimes_1 0 rfl rfl)
theorem dX5_setTimes_27 : decode cX5_setTimes 27 = .ok (.ifCond .ne 9, 3) := dk_154 0 9 (dk_at dksX5_setTimes_1 3 rfl rfl)
theorem dX5_setTimes_30 : decode cX5_setTimes 30 = .ok (.aload_n 0, 1) := dk_42 (dk_at dksX5_setTimes_1 6 rfl rfl)
theorem dX5_setTimes_31 : decode cX5_setTimes 31 = .ok (.iconst 1, 1) := dk_4 (dk_at dksX5_setTimes_1 7 rfl rfl)
theorem dX5_setTimes_32 : decode cX5_setTimes 32 = .ok (.invokevirtual 70, 3) := dk_182 0 70 (dk_at dksX5_setTimes_1 8 rfl rfl)
theorem dX5_setTimes_35 : decode cX5_setTimes 35 = .ok (.ireturn, 1) := dk_172 (dk_at dksX5_setTimes_1 11 rfl rfl)
theorem dX5_setTimes_36 : decode cX5_setTimes 36 = .ok (.aload_n 0, 1) := dk_42 (dk_at dksX5_setTimes_1 12 rfl rfl)
theorem dX5_setTimes_37 : decode cX5_setTimes 37 = .ok (.invokevirtual 73, 3) := dk_182 0 73 (dk_at dksX5_setTimes_1 13 rfl rfl)
theorem dX5_setTimes_40 : decode cX5_setTimes 40 = .ok (.aload_n 0, 1) := dk_42 (dk_at dksX5_setTimes_1 16 rfl rfl)
theorem dX5_setTimes_41 : decode cX5_setTimes 41 = .ok (.getfield 7, 3) := dk_180 0 7 (dk_at dksX5_setTimes_1 17 rfl rfl)
theorem dX5_setTimes_44 : decode cX5_setTimes 44 = .ok (.iconst 3, 1) := dk_6 (dk_at dksX5_setTimes_1 20 rfl rfl)
theorem dX5_setTimes_45 : decode cX5_setTimes 45 = .ok (.iaload, 1) := dk_46 (dk_at dksX5_setTimes_1 21 rfl rfl)
theorem dX5_setTimes_46 : decode cX5_setTimes 46 = .ok (.istore 4, 2) := dk_54 4 (dk_at dksX5_setTimes_1 22 rfl rfl)
theorem dX5_setTimes_48 : decode cX5_setTimes 48 = .ok (.aload_n 0, 1) := dk_42 (dk_at dksX5_setTimes_2 0 rfl rfl)
theorem dX5_setTimes_49 : decode cX5_setTimes 49 = .ok (.getfield 7, 3) := dk_180 0 7 (dk_at dksX5_setTimes_2 1 rfl rfl)
theorem dX5_setTimes_52 : decode cX5_setTimes 52 = .ok (.iconst 2, 1) := dk_5 (dk_at dksX5_setTimes_2 4 rfl rfl)
theorem dX5_setTimes_53 : decode cX5_setTimes 53 = .ok (.iload_n 1, 1) := dk_27 (dk_at dksX5_setTimes_2 5 rfl rfl)
theorem dX5_setTimes_54 : decode cX5_setTimes 54 = .ok (.iastore, 1) := dk_79 (dk_at dksX5_setTimes_2 6 rfl rfl)
theorem dX5_setTimes_55 : decode cX5_setTimes 55 = .ok (.aload_n 0, 1) := dk_42 (dk_at dksX5_setTimes_2 7 rfl rfl)
theorem dX5_setTimes_56 : decode cX5_setTimes 56 = .ok (.getfield 7, 3) := dk_180 0 7 (dk_at dksX5_setTimes_2 8 rfl rfl)
theorem dX5_setTimes_59 : decode cX5_setTimes 59 = .ok (.iconst 3, 1) := dk_6 (dk_at dksX5_setTimes_2 11 rfl rfl)
theorem dX5_setTimes_60 : decode cX5_setTimes 60 = .ok (.iload_n 2, 1) := dk_28 (dk_at dksX5_setTimes_2 12 rfl rfl)
theorem dX5_setTimes_61 : decode cX5_setTimes 61 = .ok (.iastore, 1) := dk_79 (dk_at dksX5_setTimes_2 13 rfl rfl)
theorem dX5_setTimes_62 : decode cX5_setTimes 62 = .ok (.aload_n 0, 1) := dk_42 (dk_at dksX5_setTimes_2 14 rfl rfl)
theorem dX5_setTimes_63 : decode cX5_setTimes 63 = .ok (.getfield 7, 3) := dk_180 0 7 (dk_at dksX5_setTimes_2 15 rfl rfl)
theorem dX5_setTimes_66 : decode cX5_setTimes 66 = .ok (.iconst 4, 1) := dk_7 (dk_at dksX5_setTimes_2 18 rfl rfl)
theorem dX5_setTimes_67 : decode cX5_setTimes 67 = .ok (.iload_n 3, 1) := dk_29 (dk_at dksX5_setTimes_2 19 rfl rfl)
theorem dX5_setTimes_68 : decode cX5_setTimes 68 = .ok (.iastore, 1) := dk_79 (dk_at dksX5_setTimes_2 20 rfl rfl)
theorem dX5_setTimes_69 : decode cX5_setTimes 69 = .ok (.aload_n 0, 1) := dk_42 (dk_at dksX5_setTimes_2 21 rfl rfl)
theorem dX5_setTimes_70 : decode cX5_setTimes 70 = .ok (.iload 4, 2) := dk_21 4 (dk_at dksX5_setTimes_2 22 rfl rfl)
theorem dX5_setTimes_72 : decode cX5_setTimes 72 = .ok (.invokevirtual 76, 3) := dk_182 0 76 (dk_at dksX5_setTimes_3 0 rfl rfl)
theorem dX5_setTimes_75 : decode cX5_setTimes 75 = .ok (.ireturn, 1) := dk_172 (dk_at dksX5_setTimes_3 3 rfl rfl)
abbrev cX5_setPriority : ByteArray := prog_11_method_32_code
def yX5_setPriority : MethodName := ⟨RX5, "setPriority", "(II)I"⟩
def dkwX5_setPriority_0 : List UInt8 := [42, 182, 0, 73, 42, 42, 27, 28, 182, 0, 101, 182, 0, 104, 172]
abbrev dktX5_setPriority_0 : List UInt8 := dkwX5_setPriority_0 ++ []
theorem dksX5_setPriority_0 : cX5_setPriority.data.toList.drop 0 = dktX5_setPriority_0 := by decide +kernel
theorem dX5_setPriority_0 : decode cX5_setPriority 0 = .ok (.aload_n 0, 1) := dk_42 (dk_at dksX5_setPriority_0 0 rfl rfl)
theorem dX5_setPriority_1 : decode cX5_setPriority 1 = .ok (.invokevirtual 73, 3) := dk_182 0 73 (dk_at dksX5_setPriority_0 1 rfl rfl)
theorem dX5_setPriority_4 : decode cX5_setPriority 4 = .ok (.aload_n 0, 1) := dk_42 (dk_at dksX5_setPriority_0 4 rfl rfl)
theorem dX5_setPriority_5 : decode cX5_setPriority 5 = .ok (.aload_n 0, 1) := dk_42 (dk_at dksX5_setPriority_0 5 rfl rfl)
theorem dX5_setPriority_6 : decode cX5_setPriority 6 = .ok (.iload_n 1, 1) := dk_27 (dk_at dksX5_setPriority_0 6 rfl rfl)
theorem dX5_setPriority_7 : decode cX5_setPriority 7 = .ok (.iload_n 2, 1) := dk_28 (dk_at dksX5_setPriority_0 7 rfl rfl)
theorem dX5_setPriority_8 : decode cX5_setPriority 8 = .ok (.invokevirtual 101, 3) := dk_182 0 101 (dk_at dksX5_setPriority_0 8 rfl rfl)
theorem dX5_setPriority_11 : decode cX5_setPriority 11 = .ok (.invokevirtual 104, 3) := dk_182 0 104 (dk_at dksX5_setPriority_0 11 rfl rfl)
theorem dX5_setPriority_14 : decode cX5_setPriority 14 = .ok (.ireturn, 1) := dk_172 (dk_at dksX5_setPriority_0 14 rfl rfl)
abbrev cX5_prioritizes : ByteArray := prog_11_method_24_code
def yX5_prioritizes : MethodName := ⟨RX5, "prioritizes", "(II)I"⟩
def dkwX5_prioritizes_2 : List UInt8 := [79, 42, 27, 182, 0, 56, 3, 172]
abbrev dktX5_prioritizes_2 : List UInt8 := dkwX5_prioritizes_2 ++ []
def dkwX5_prioritizes_1 : List UInt8 := [180, 0, 7, 16, 11, 8, 27, 104, 96, 46, 181, 0, 82, 42, 180, 0, 7, 16, 11, 8, 27, 104, 96, 28]
abbrev dktX5_prioritizes_1 : List UInt8 := dkwX5_prioritizes_1 ++ dktX5_prioritizes_2
def dkwX5_prioritizes_0 : List UInt8 := [42, 27, 182, 0, 79, 154, 0, 5, 4, 172, 28, 3, 16, 9, 184, 0, 49, 154, 0, 5, 5, 172, 42, 42]
abbrev dktX5_prioritizes_0 : List UInt8 := dkwX5_prioritizes_0 ++ dktX5_prioritizes_1
theorem dksX5_prioritizes_0 : cX5_prioritizes.data.toList.drop 0 = dktX5_prioritizes_0 := by decide +kernel
theorem dksX5_prioritizes_1 : cX5_prioritizes.data.toList.drop 24 = dktX5_prioritizes_1 := dk_seg dksX5_prioritizes_0 24 rfl rfl
theorem dksX5_prioritizes_2 : cX5_prioritizes.data.toList.drop 48 = dktX5_prioritizes_2 := dk_seg dksX5_prioritizes_1 24 rfl rfl
theorem dX5_prioritizes_0 : decode cX5_prioritizes 0 = .ok (.aload_n 0, 1) := dk_42 (dk_at dksX5_prioritizes_0 0 rfl rfl)
theorem dX5_prioritizes_1 : decode cX5_prioritizes 1 = .ok (.iload_n 1, 1) := dk_27 (dk_at dksX5_prioritizes_0 1 rfl rfl)
theorem dX5_prioritizes_2 : decode cX5_prioritizes 2 = .ok (.invokevirtual 79, 3) := dk_182 0 79 (dk_at dksX5_prioritizes_0 2 rfl rfl)
theorem dX5_prioritizes_5 : decode cX5_prioritizes 5 = .ok (.ifCond .ne 5, 3) := dk_154 0 5 (dk_at dksX5_prioritizes_0 5 rfl rfl)
theorem dX5_prioritizes_8 : decode cX5_prioritizes 8 = .ok (.iconst 1, 1) := dk_4 (dk_at dksX5_prioritizes_0 8 rfl rfl)
theorem dX5_prioritizes_9 : decode cX5_prioritizes 9 = .ok (.ireturn, 1) := dk_172 (dk_at dksX5_prioritizes_0 9 rfl rfl)
theorem dX5_prioritizes_10 : decode cX5_prioritizes 10 = .ok (.iload_n 2, 1) := dk_28 (dk_at dksX5_prioritizes_0 10 rfl rfl)
theorem dX5_prioritizes_11 : decode cX5_prioritizes 11 = .ok (.iconst 0, 1) := dk_3 (dk_at dksX5_prioritizes_0 11 rfl rfl)
theorem dX5_prioritizes_12 : decode cX5_prioritizes 12 = .ok (.bipush 9, 2) := dk_16 9 (dk_at dksX5_prioritizes_0 12 rfl rfl)
theorem dX5_prioritizes_14 : decode cX5_prioritizes 14 = .ok (.invokestatic 49, 3) := dk_184 0 49 (dk_at dksX5_prioritizes_0 14 rfl rfl)
theorem dX5_prioritizes_17 : decode cX5_prioritizes 17 = .ok (.ifCond .ne 5, 3) := dk_154 0 5 (dk_at dksX5_prioritizes_0 17 rfl rfl)
theorem dX5_prioritizes_20 : decode cX5_prioritizes 20 = .ok (.iconst 2, 1) := dk_5 (dk_at dksX5_prioritizes_0 20 rfl rfl)
theorem dX5_prioritizes_21 : decode cX5_prioritizes 21 = .ok (.ireturn, 1) := dk_172 (dk_at dksX5_prioritizes_0 21 rfl rfl)
theorem dX5_prioritizes_22 : decode cX5_prioritizes 22 = .ok (.aload_n 0, 1) := dk_42 (dk_at dksX5_prioritizes_0 22 rfl rfl)
theorem dX5_prioritizes_23 : decode cX5_prioritizes 23 = .ok (.aload_n 0, 1) := dk_42 (dk_at dksX5_prioritizes_0 23 rfl rfl)
theorem dX5_prioritizes_24 : decode cX5_prioritizes 24 = .ok (.getfield 7, 3) := dk_180 0 7 (dk_at dksX5_prioritizes_1 0 rfl rfl)
theorem dX5_prioritizes_27 : decode cX5_prioritizes 27 = .ok (.bipush 11, 2) := dk_16 11 (dk_at dksX5_prioritizes_1 3 rfl rfl)
theorem dX5_prioritizes_29 : decode cX5_prioritizes 29 = .ok (.iconst 5, 1) := dk_8 (dk_at dksX5_prioritizes_1 5 rfl rfl)
theorem dX5_prioritizes_30 : decode cX5_prioritizes 30 = .ok (.iload_n 1, 1) := dk_27 (dk_at dksX5_prioritizes_1 6 rfl rfl)
theorem dX5_prioritizes_31 : decode cX5_prioritizes 31 = .ok (.imul, 1) := dk_104 (dk_at dksX5_prioritizes_1 7 rfl rfl)
theorem dX5_prioritizes_32 : decode cX5_prioritizes 32 = .ok (.iadd, 1) := dk_96 (dk_at dksX5_prioritizes_1 8 rfl rfl)
theorem dX5_prioritizes_33 : decode cX5_prioritizes 33 = .ok (.iaload, 1) := dk_46 (dk_at dksX5_prioritizes_1 9 rfl rfl)
theorem dX5_prioritizes_34 : decode cX5_prioritizes 34 = .ok (.putfield 82, 3) := dk_181 0 82 (dk_at dksX5_prioritizes_1 10 rfl rfl)
theorem dX5_prioritizes_37 : decode cX5_prioritizes 37 = .ok (.aload_n 0, 1) := dk_42 (dk_at dksX5_prioritizes_1 13 rfl rfl)
theorem dX5_prioritizes_38 : decode cX5_prioritizes 38 = .ok (.getfield 7, 3) := dk_180 0 7 (dk_at dksX5_prioritizes_1 14 rfl rfl)
theorem dX5_prioritizes_41 : decode cX5_prioritizes 41 = .ok (.bipush 11, 2) := dk_16 11 (dk_at dksX5_prioritizes_1 17 rfl rfl)
theorem dX5_prioritizes_43 : decode cX5_prioritizes 43 = .ok (.iconst 5, 1) := dk_8 (dk_at dksX5_prioritizes_1 19 rfl rfl)
theorem dX5_prioritizes_44 : decode cX5_prioritizes 44 = .ok (.iload_n 1, 1) := dk_27 (dk_at dksX5_prioritizes_1 20 rfl rfl)
theorem dX5_prioritizes_45 : decode cX5_prioritizes 45 = .ok (.imul, 1) := dk_104 (dk_at dksX5_prioritizes_1 21 rfl rfl)
theorem dX5_prioritizes_46 : decode cX5_prioritizes 46 = .ok (.iadd, 1) := dk_96 (dk_at dksX5_prioritizes_1 22 rfl rfl)
theorem dX5_prioritizes_47 : decode cX5_prioritizes 47 = .ok (.iload_n 2, 1) := dk_28 (dk_at dksX5_prioritizes_1 23 rfl rfl)
theorem dX5_prioritizes_48 : decode cX5_prioritizes 48 = .ok (.iastore, 1) := dk_79 (dk_at dksX5_prioritizes_2 0 rfl rfl)
theorem dX5_prioritizes_49 : decode cX5_prioritizes 49 = .ok (.aload_n 0, 1) := dk_42 (dk_at dksX5_prioritizes_2 1 rfl rfl)
theorem dX5_prioritizes_50 : decode cX5_prioritizes 50 = .ok (.iload_n 1, 1) := dk_27 (dk_at dksX5_prioritizes_2 2 rfl rfl)
theorem dX5_prioritizes_51 : decode cX5_prioritizes 51 = .ok (.invokevirtual 56, 3) := dk_182 0 56 (dk_at dksX5_prioritizes_2 3 rfl rfl)
theorem dX5_prioritizes_54 : decode cX5_prioritizes 54 = .ok (.iconst 0, 1) := dk_3 (dk_at dksX5_prioritizes_2 6 rfl rfl)
theorem dX5_prioritizes_55 : decode cX5_prioritizes 55 = .ok (.ireturn, 1) := dk_172 (dk_at dksX5_prioritizes_2 7 rfl rfl)
abbrev cX5_isBridge : ByteArray := prog_11_method_11_code
def yX5_isBridge : MethodName := ⟨RX5, "isBridge", "(I)Z"⟩
def dkwX5_isBridge_0 : List UInt8 := [27, 3, 42, 180, 0, 7, 3, 46, 4, 100, 184, 0, 49, 172]
abbrev dktX5_isBridge_0 : List UInt8 := dkwX5_isBridge_0 ++ []
theorem dksX5_isBridge_0 : cX5_isBridge.data.toList.drop 0 = dktX5_isBridge_0 := by decide +kernel
theorem dX5_isBridge_0 : decode cX5_isBridge 0 = .ok (.iload_n 1, 1) := dk_27 (dk_at dksX5_isBridge_0 0 rfl rfl)
theorem dX5_isBridge_1 : decode cX5_isBridge 1 = .ok (.iconst 0, 1) := dk_3 (dk_at dksX5_isBridge_0 1 rfl rfl)
theorem dX5_isBridge_2 : decode cX5_isBridge 2 = .ok (.aload_n 0, 1) := dk_42 (dk_at dksX5_isBridge_0 2 rfl rfl)
theorem dX5_isBridge_3 : decode cX5_isBridge 3 = .ok (.getfield 7, 3) := dk_180 0 7 (dk_at dksX5_isBridge_0 3 rfl rfl)
theorem dX5_isBridge_6 : decode cX5_isBridge 6 = .ok (.iconst 0, 1) := dk_3 (dk_at dksX5_isBridge_0 6 rfl rfl)
theorem dX5_isBridge_7 : decode cX5_isBridge 7 = .ok (.iaload, 1) := dk_46 (dk_at dksX5_isBridge_0 7 rfl rfl)
theorem dX5_isBridge_8 : decode cX5_isBridge 8 = .ok (.iconst 1, 1) := dk_4 (dk_at dksX5_isBridge_0 8 rfl rfl)
theorem dX5_isBridge_9 : decode cX5_isBridge 9 = .ok (.isub, 1) := dk_100 (dk_at dksX5_isBridge_0 9 rfl rfl)
theorem dX5_isBridge_10 : decode cX5_isBridge 10 = .ok (.invokestatic 49, 3) := dk_184 0 49 (dk_at dksX5_isBridge_0 10 rfl rfl)
theorem dX5_isBridge_13 : decode cX5_isBridge 13 = .ok (.ireturn, 1) := dk_172 (dk_at dksX5_isBridge_0 13 rfl rfl)
abbrev cX5_done : ByteArray := prog_11_method_31_code
def yX5_done : MethodName := ⟨RX5, "done", "(I)I"⟩
def dkwX5_done_0 : List UInt8 := [27, 158, 0, 11, 42, 27, 182, 0, 70, 167, 0, 11, 42, 42, 180, 0, 82, 182, 0, 76, 172]
abbrev dktX5_done_0 : List UInt8 := dkwX5_done_0 ++ []
theorem dksX5_done_0 : cX5_done.data.toList.drop 0 = dktX5_done_0 := by decide +kernel
theorem dX5_done_0 : decode cX5_done 0 = .ok (.iload_n 1, 1) := dk_27 (dk_at dksX5_done_0 0 rfl rfl)
theorem dX5_done_1 : decode cX5_done 1 = .ok (.ifCond .le 11, 3) := dk_158 0 11 (dk_at dksX5_done_0 1 rfl rfl)
theorem dX5_done_4 : decode cX5_done 4 = .ok (.aload_n 0, 1) := dk_42 (dk_at dksX5_done_0 4 rfl rfl)
theorem dX5_done_5 : decode cX5_done 5 = .ok (.iload_n 1, 1) := dk_27 (dk_at dksX5_done_0 5 rfl rfl)
theorem dX5_done_6 : decode cX5_done 6 = .ok (.invokevirtual 70, 3) := dk_182 0 70 (dk_at dksX5_done_0 6 rfl rfl)
theorem dX5_done_9 : decode cX5_done 9 = .ok (.goto 11, 3) := dk_167 0 11 (dk_at dksX5_done_0 9 rfl rfl)
theorem dX5_done_12 : decode cX5_done 12 = .ok (.aload_n 0, 1) := dk_42 (dk_at dksX5_done_0 12 rfl rfl)
theorem dX5_done_13 : decode cX5_done 13 = .ok (.aload_n 0, 1) := dk_42 (dk_at dksX5_done_0 13 rfl rfl)
theorem dX5_done_14 : decode cX5_done 14 = .ok (.getfield 82, 3) := dk_180 0 82 (dk_at dksX5_done_0 14 rfl rfl)
theorem dX5_done_17 : decode cX5_done 17 = .ok (.invokevirtual 76, 3) := dk_182 0 76 (dk_at dksX5_done_0 17 rfl rfl)
theorem dX5_done_20 : decode cX5_done 20 = .ok (.ireturn, 1) := dk_172 (dk_at dksX5_done_0 20 rfl rfl)
abbrev cX5_addLink : ByteArray := prog_11_method_33_code
def yX5_addLink : MethodName := ⟨RX5, "addLink", "(III)I"⟩
def dkwX5_addLink_0 : List UInt8 := [42, 182, 0, 73, 42, 42, 27, 28, 29, 182, 0, 107, 182, 0, 104, 172]
abbrev dktX5_addLink_0 : List UInt8 := dkwX5_addLink_0 ++ []
theorem dksX5_addLink_0 : cX5_addLink.data.toList.drop 0 = dktX5_addLink_0 := by decide +kernel
theorem dX5_addLink_0 : decode cX5_addLink 0 = .ok (.aload_n 0, 1) := dk_42 (dk_at dksX5_addLink_0 0 rfl rfl)
theorem dX5_addLink_1 : decode cX5_addLink 1 = .ok (.invokevirtual 73, 3) := dk_182 0 73 (dk_at dksX5_addLink_0 1 rfl rfl)
theorem dX5_addLink_4 : decode cX5_addLink 4 = .ok (.aload_n 0, 1) := dk_42 (dk_at dksX5_addLink_0 4 rfl rfl)
theorem dX5_addLink_5 : decode cX5_addLink 5 = .ok (.aload_n 0, 1) := dk_42 (dk_at dksX5_addLink_0 5 rfl rfl)
theorem dX5_addLink_6 : decode cX5_addLink 6 = .ok (.iload_n 1, 1) := dk_27 (dk_at dksX5_addLink_0 6 rfl rfl)
theorem dX5_addLink_7 : decode cX5_addLink 7 = .ok (.iload_n 2, 1) := dk_28 (dk_at dksX5_addLink_0 7 rfl rfl)
theorem dX5_addLink_8 : decode cX5_addLink 8 = .ok (.iload_n 3, 1) := dk_29 (dk_at dksX5_addLink_0 8 rfl rfl)
theorem dX5_addLink_9 : decode cX5_addLink 9 = .ok (.invokevirtual 107, 3) := dk_182 0 107 (dk_at dksX5_addLink_0 9 rfl rfl)
theorem dX5_addLink_12 : decode cX5_addLink 12 = .ok (.invokevirtual 104, 3) := dk_182 0 104 (dk_at dksX5_addLink_0 12 rfl rfl)
theorem dX5_addLink_15 : decode cX5_addLink 15 = .ok (.ireturn, 1) := dk_172 (dk_at dksX5_addLink_0 15 rfl rfl)
abbrev cX5_joins : ByteArray := prog_11_method_25_code
def yX5_joins : MethodName := ⟨RX5, "joins", "(III)I"⟩
def dkwX5_joins_8 : List UInt8 := [16, 11, 5, 182, 0, 85, 3, 172]
abbrev dktX5_joins_8 : List UInt8 := dkwX5_joins_8 ++ []
def dkwX5_joins_7 : List UInt8 := [180, 0, 82, 8, 2, 182, 0, 85, 42, 42, 180, 0, 82, 16, 8, 5, 182, 0, 85, 42, 42, 180, 0, 82]
abbrev dktX5_joins_7 : List UInt8 := dkwX5_joins_7 ++ dktX5_joins_8
def dkwX5_joins_6 : List UInt8 := [42, 42, 180, 0, 82, 6, 29, 182, 0, 85, 42, 42, 180, 0, 82, 7, 4, 182, 0, 85, 42, 42]
abbrev dktX5_joins_6 : List UInt8 := dkwX5_joins_6 ++ dktX5_joins_7
def dkwX5_joins_5 : List UInt8 := [4, 27, 28, 162, 0, 7, 28, 167, 0, 4, 27, 182, 0, 85, 42, 42, 180, 0, 82, 5, 29, 182, 0, 85]
abbrev dktX5_joins_5 : List UInt8 := dkwX5_joins_5 ++ dktX5_joins_6
def dkwX5_joins_4 : List UInt8 := [42, 42, 180, 0, 82, 3, 27, 28, 162, 0, 7, 27, 167, 0, 4, 28, 182, 0, 85, 42, 42, 180, 0, 82]
abbrev dktX5_joins_4 : List UInt8 := dkwX5_joins_4 ++ dktX5_joins_5
def dkwX5_joins_3 : List UInt8 := [21, 4, 16, 18, 162, 0, 20, 42, 42, 180, 0, 82, 21, 4, 3, 182, 0, 85, 132, 4, 1, 167, 255, 235]
abbrev dktX5_joins_3 : List UInt8 := dkwX5_joins_3 ++ dktX5_joins_4
def dkwX5_joins_2 : List UInt8 := [42, 42, 180, 0, 7, 8, 46, 181, 0, 82, 42, 180, 0, 7, 8, 92, 46, 4, 96, 79, 3, 54, 4]
abbrev dktX5_joins_2 : List UInt8 := dkwX5_joins_2 ++ dktX5_joins_3
def dkwX5_joins_1 : List UInt8 := [4, 16, 100, 184, 0, 49, 154, 0, 5, 5, 172, 42, 180, 0, 7, 8, 46, 16, 16, 160, 0, 5, 6, 172]
abbrev dktX5_joins_1 : List UInt8 := dkwX5_joins_1 ++ dktX5_joins_2
def dkwX5_joins_0 : List UInt8 := [42, 27, 182, 0, 79, 153, 0, 11, 42, 28, 182, 0, 79, 154, 0, 5, 4, 172, 27, 28, 159, 0, 13, 29]
abbrev dktX5_joins_0 : List UInt8 := dkwX5_joins_0 ++ dktX5_joins_1
theorem dksX5_joins_0 : cX5_joins.data.toList.drop 0 = dktX5_joins_0 := by decide +kernel
theorem dksX5_joins_1 : cX5_joins.data.toList.drop 24 = dktX5_joins_1 := dk_seg dksX5_joins_0 24 rfl rfl
theorem dksX5_joins_2 : cX5_joins.data.toList.drop 48 = dktX5_joins_2 := dk_seg dksX5_joins_1 24 rfl rfl
theorem dksX5_joins_3 : cX5_joins.data.toList.drop 71 = dktX5_joins_3 := dk_seg dksX5_joins_2 23 rfl rfl
theorem dksX5_joins_4 : cX5_joins.data.toList.drop 95 = dktX5_joins_4 := dk_seg dksX5_joins_3 24 rfl rfl
theorem dksX5_joins_5 : cX5_joins.data.toList.drop 119 = dktX5_joins_5 := dk_seg dksX5_joins_4 24 rfl rfl
theorem dksX5_joins_6 : cX5_joins.data.toList.drop 143 = dktX5_joins_6 := dk_seg dksX5_joins_5 24 rfl rfl
theorem dksX5_joins_7 : cX5_joins.data.toList.drop 165 = dktX5_joins_7 := dk_seg dksX5_joins_6 22 rfl rfl
theorem dksX5_joins_8 : cX5_joins.data.toList.drop 189 = dktX5_joins_8 := dk_seg dksX5_joins_7 24 rfl rfl
theorem dX5_joins_0 : decode cX5_joins 0 = .ok (.aload_n 0, 1) := dk_42 (dk_at dksX5_joins_0 0 rfl rfl)
theorem dX5_joins_1 : decode cX5_joins 1 = .ok (.iload_n 1, 1) := dk_27 (dk_at dksX5_joins_0 1 rfl rfl)
theorem dX5_joins_2 : decode cX5_joins 2 = .ok (.invokevirtual 79, 3) := dk_182 0 79 (dk_at dksX5_joins_0 2 rfl rfl)
theorem dX5_joins_5 : decode cX5_joins 5 = .ok (.ifCond .eq 11, 3) := dk_153 0 11 (dk_at dksX5_joins_0 5 rfl rfl)
theorem dX5_joins_8 : decode cX5_joins 8 = .ok (.aload_n 0, 1) := dk_42 (dk_at dksX5_joins_0 8 rfl rfl)
theorem dX5_joins_9 : decode cX5_joins 9 = .ok (.iload_n 2, 1) := dk_28 (dk_at dksX5_joins_0 9 rfl rfl)
theorem dX5_joins_10 : decode cX5_joins 10 = .ok (.invokevirtual 79, 3) := dk_182 0 79 (dk_at dksX5_joins_0 10 rfl rfl)
theorem dX5_joins_13 : decode cX5_joins 13 = .ok (.ifCond .ne 5, 3) := dk_154 0 5 (dk_at dksX5_joins_0 13 rfl rfl)
theorem dX5_joins_16 : decode cX5_joins 16 = .ok (.iconst 1, 1) := dk_4 (dk_at dksX5_joins_0 16 rfl rfl)
theorem dX5_joins_17 : decode cX5_joins 17 = .ok (.ireturn, 1) := dk_172 (dk_at dksX5_joins_0 17 rfl rfl)
theorem dX5_joins_18 : decode cX5_joins 18 = .ok (.iload_n 1, 1) := dk_27 (dk_at dksX5_joins_0 18 rfl rfl)
theorem dX5_joins_19 : decode cX5_joins 19 = .ok (.iload_n 2, 1) := dk_28 (dk_at dksX5_joins_0 19 rfl rfl)
theorem dX5_joins_20 : decode cX5_joins 20 = .ok (.if_icmp .eq 13, 3) := dk_159 0 13 (dk_at dksX5_joins_0 20 rfl rfl)
theorem dX5_joins_23 : decode cX5_joins 23 = .ok (.iload_n 3, 1) := dk_29 (dk_at dksX5_joins_0 23 rfl rfl)
theorem dX5_joins_24 : decode cX5_joins 24 = .ok (.iconst 1, 1) := dk_4 (dk_at dksX5_joins_1 0 rfl rfl)
theorem dX5_joins_25 : decode cX5_joins 25 = .ok (.bipush 100, 2) := dk_16 100 (dk_at dksX5_joins_1 1 rfl rfl)
theorem dX5_joins_27 : decode cX5_joins 27 = .ok (.invokestatic 49, 3) := dk_184 0 49 (dk_at dksX5_joins_1 3 rfl rfl)
theorem dX5_joins_30 : decode cX5_joins 30 = .ok (.ifCond .ne 5, 3) := dk_154 0 5 (dk_at dksX5_joins_1 6 rfl rfl)
theorem dX5_joins_33 : decode cX5_joins 33 = .ok (.iconst 2, 1) := dk_5 (dk_at dksX5_joins_1 9 rfl rfl)
theorem dX5_joins_34 : decode cX5_joins 34 = .ok (.ireturn, 1) := dk_172 (dk_at dksX5_joins_1 10 rfl rfl)
theorem dX5_joins_35 : decode cX5_joins 35 = .ok (.aload_n 0, 1) := dk_42 (dk_at dksX5_joins_1 11 rfl rfl)
theorem dX5_joins_36 : decode cX5_joins 36 = .ok (.getfield 7, 3) := dk_180 0 7 (dk_at dksX5_joins_1 12 rfl rfl)
theorem dX5_joins_39 : decode cX5_joins 39 = .ok (.iconst 5, 1) := dk_8 (dk_at dksX5_joins_1 15 rfl rfl)
theorem dX5_joins_40 : decode cX5_joins 40 = .ok (.iaload, 1) := dk_46 (dk_at dksX5_joins_1 16 rfl rfl)
theorem dX5_joins_41 : decode cX5_joins 41 = .ok (.bipush 16, 2) := dk_16 16 (dk_at dksX5_joins_1 17 rfl rfl)
theorem dX5_joins_43 : decode cX5_joins 43 = .ok (.if_icmp .ne 5, 3) := dk_160 0 5 (dk_at dksX5_joins_1 19 rfl rfl)
theorem dX5_joins_46 : decode cX5_joins 46 = .ok (.iconst 3, 1) := dk_6 (dk_at dksX5_joins_1 22 rfl rfl)
theorem dX5_joins_47 : decode cX5_joins 47 = .ok (.ireturn, 1) := dk_172 (dk_at dksX5_joins_1 23 rfl rfl)
theorem dX5_joins_48 : decode cX5_joins 48 = .ok (.aload_n 0, 1) := dk_42 (dk_at dksX5_joins_2 0 rfl rfl)
theorem dX5_joins_49 : decode cX5_joins 49 = .ok (.aload_n 0, 1) := dk_42 (dk_at dksX5_joins_2 1 rfl rfl)
theorem dX5_joins_50 : decode cX5_joins 50 = .ok (.getfield 7, 3) := dk_180 0 7 (dk_at dksX5_joins_2 2 rfl rfl)
theorem dX5_joins_53 : decode cX5_joins 53 = .ok (.iconst 5, 1) := dk_8 (dk_at dksX5_joins_2 5 rfl rfl)
theorem dX5_joins_54 : decode cX5_joins 54 = .ok (.iaload, 1) := dk_46 (dk_at dksX5_joins_2 6 rfl rfl)
theorem dX5_joins_55 : decode cX5_joins 55 = .ok (.putfield 82, 3) := dk_181 0 82 (dk_at dksX5_joins_2 7 rfl rfl)
theorem dX5_joins_58 : decode cX5_joins 58 = .ok (.aload_n 0, 1) := dk_42 (dk_at dksX5_joins_2 10 rfl rfl)
theorem dX5_joins_59 : decode cX5_joins 59 = .ok (.getfield 7, 3) := dk_180 0 7 (dk_at dksX5_joins_2 11 rfl rfl)
theorem dX5_joins_62 : decode cX5_joins 62 = .ok (.iconst 5, 1) := dk_8 (dk_at dksX5_joins_2 14 rfl rfl)
theorem dX5_joins_63 : decode cX5_joins 63 = .ok (.dup2, 1) := dk_92 (dk_at dksX5_joins_2 15 rfl rfl)
theorem dX5_joins_64 : decode cX5_joins 64 = .ok (.iaload, 1) := dk_46 (dk_at dksX5_joins_2 16 rfl rfl)
theorem dX5_joins_65 : decode cX5_joins 65 = .ok (.iconst 1, 1) := dk_4 (dk_at dksX5_joins_2 17 rfl rfl)
theorem dX5_joins_66 : decode cX5_joins 66 = .ok (.iadd, 1) := dk_96 (dk_at dksX5_joins_2 18 rfl rfl)
theorem dX5_joins_67 : decode cX5_joins 67 = .ok (.iastore, 1) := dk_79 (dk_at dksX5_joins_2 19 rfl rfl)
theorem dX5_joins_68 : decode cX5_joins 68 = .ok (.iconst 0, 1) := dk_3 (dk_at dksX5_joins_2 20 rfl rfl)
theorem dX5_joins_69 : decode cX5_joins 69 = .ok (.istore 4, 2) := dk_54 4 (dk_at dksX5_joins_2 21 rfl rfl)
theorem dX5_joins_71 : decode cX5_joins 71 = .ok (.iload 4, 2) := dk_21 4 (dk_at dksX5_joins_3 0 rfl rfl)
theorem dX5_joins_73 : decode cX5_joins 73 = .ok (.bipush 18, 2) := dk_16 18 (dk_at dksX5_joins_3 2 rfl rfl)
theorem dX5_joins_75 : decode cX5_joins 75 = .ok (.if_icmp .ge 20, 3) := dk_162 0 20 (dk_at dksX5_joins_3 4 rfl rfl)
theorem dX5_joins_78 : decode cX5_joins 78 = .ok (.aload_n 0, 1) := dk_42 (dk_at dksX5_joins_3 7 rfl rfl)
theorem dX5_joins_79 : decode cX5_joins 79 = .ok (.aload_n 0, 1) := dk_42 (dk_at dksX5_joins_3 8 rfl rfl)
theorem dX5_joins_80 : decode cX5_joins 80 = .ok (.getfield 82, 3) := dk_180 0 82 (dk_at dksX5_joins_3 9 rfl rfl)
theorem dX5_joins_83 : decode cX5_joins 83 = .ok (.iload 4, 2) := dk_21 4 (dk_at dksX5_joins_3 12 rfl rfl)
theorem dX5_joins_85 : decode cX5_joins 85 = .ok (.iconst 0, 1) := dk_3 (dk_at dksX5_joins_3 14 rfl rfl)
theorem dX5_joins_86 : decode cX5_joins 86 = .ok (.invokevirtual 85, 3) := dk_182 0 85 (dk_at dksX5_joins_3 15 rfl rfl)
theorem dX5_joins_89 : decode cX5_joins 89 = .ok (.iinc 4 1, 3) := dk_132 4 1 (dk_at dksX5_joins_3 18 rfl rfl)
theorem dX5_joins_92 : decode cX5_joins 92 = .ok (.goto (-21), 3) := dk_167 255 235 (dk_at dksX5_joins_3 21 rfl rfl)
theorem dX5_joins_95 : decode cX5_joins 95 = .ok (.aload_n 0, 1) := dk_42 (dk_at dksX5_joins_4 0 rfl rfl)
theorem dX5_joins_96 : decode cX5_joins 96 = .ok (.aload_n 0, 1) := dk_42 (dk_at dksX5_joins_4 1 rfl rfl)
theorem dX5_joins_97 : decode cX5_joins 97 = .ok (.getfield 82, 3) := dk_180 0 82 (dk_at dksX5_joins_4 2 rfl rfl)
theorem dX5_joins_100 : decode cX5_joins 100 = .ok (.iconst 0, 1) := dk_3 (dk_at dksX5_joins_4 5 rfl rfl)
theorem dX5_joins_101 : decode cX5_joins 101 = .ok (.iload_n 1, 1) := dk_27 (dk_at dksX5_joins_4 6 rfl rfl)
theorem dX5_joins_102 : decode cX5_joins 102 = .ok (.iload_n 2, 1) := dk_28 (dk_at dksX5_joins_4 7 rfl rfl)
theorem dX5_joins_103 : decode cX5_joins 103 = .ok (.if_icmp .ge 7, 3) := dk_162 0 7 (dk_at dksX5_joins_4 8 rfl rfl)
theorem dX5_joins_106 : decode cX5_joins 106 = .ok (.iload_n 1, 1) := dk_27 (dk_at dksX5_joins_4 11 rfl rfl)
theorem dX5_joins_107 : decode cX5_joins 107 = .ok (.goto 4, 3) := dk_167 0 4 (dk_at dksX5_joins_4 12 rfl rfl)
theorem dX5_joins_110 : decode cX5_joins 110 = .ok (.iload_n 2, 1) := dk_28 (dk_at dksX5_joins_4 15 rfl rfl)
theorem dX5_joins_111 : decode cX5_joins 111 = .ok (.invokevirtual 85, 3) := dk_182 0 85 (dk_at dksX5_joins_4 16 rfl rfl)
theorem dX5_joins_114 : decode cX5_joins 114 = .ok (.aload_n 0, 1) := dk_42 (dk_at dksX5_joins_4 19 rfl rfl)
theorem dX5_joins_115 : decode cX5_joins 115 = .ok (.aload_n 0, 1) := dk_42 (dk_at dksX5_joins_4 20 rfl rfl)
theorem dX5_joins_116 : decode cX5_joins 116 = .ok (.getfield 82, 3) := dk_180 0 82 (dk_at dksX5_joins_4 21 rfl rfl)
theorem dX5_joins_119 : decode cX5_joins 119 = .ok (.iconst 1, 1) := dk_4 (dk_at dksX5_joins_5 0 rfl rfl)
theorem dX5_joins_120 : decode cX5_joins 120 = .ok (.iload_n 1, 1) := dk_27 (dk_at dksX5_joins_5 1 rfl rfl)
theorem dX5_joins_121 : decode cX5_joins 121 = .ok (.iload_n 2, 1) := dk_28 (dk_at dksX5_joins_5 2 rfl rfl)
theorem dX5_joins_122 : decode cX5_joins 122 = .ok (.if_icmp .ge 7, 3) := dk_162 0 7 (dk_at dksX5_joins_5 3 rfl rfl)
theorem dX5_joins_125 : decode cX5_joins 125 = .ok (.iload_n 2, 1) := dk_28 (dk_at dksX5_joins_5 6 rfl rfl)
theorem dX5_joins_126 : decode cX5_joins 126 = .ok (.goto 4, 3) := dk_167 0 4 (dk_at dksX5_joins_5 7 rfl rfl)
theorem dX5_joins_129 : decode cX5_joins 129 = .ok (.iload_n 1, 1) := dk_27 (dk_at dksX5_joins_5 10 rfl rfl)
theorem dX5_joins_130 : decode cX5_joins 130 = .ok (.invokevirtual 85, 3) := dk_182 0 85 (dk_at dksX5_joins_5 11 rfl rfl)
theorem dX5_joins_133 : decode cX5_joins 133 = .ok (.aload_n 0, 1) := dk_42 (dk_at dksX5_joins_5 14 rfl rfl)
theorem dX5_joins_134 : decode cX5_joins 134 = .ok (.aload_n 0, 1) := dk_42 (dk_at dksX5_joins_5 15 rfl rfl)
theorem dX5_joins_135 : decode cX5_joins 135 = .ok (.getfield 82, 3) := dk_180 0 82 (dk_at dksX5_joins_5 16 rfl rfl)
theorem dX5_joins_138 : decode cX5_joins 138 = .ok (.iconst 2, 1) := dk_5 (dk_at dksX5_joins_5 19 rfl rfl)
theorem dX5_joins_139 : decode cX5_joins 139 = .ok (.iload_n 3, 1) := dk_29 (dk_at dksX5_joins_5 20 rfl rfl)
theorem dX5_joins_140 : decode cX5_joins 140 = .ok (.invokevirtual 85, 3) := dk_182 0 85 (dk_at dksX5_joins_5 21 rfl rfl)
theorem dX5_joins_143 : decode cX5_joins 143 = .ok (.aload_n 0, 1) := dk_42 (dk_at dksX5_joins_6 0 rfl rfl)
theorem dX5_joins_144 : decode cX5_joins 144 = .ok (.aload_n 0, 1) := dk_42 (dk_at dksX5_joins_6 1 rfl rfl)
theorem dX5_joins_145 : decode cX5_joins 145 = .ok (.getfield 82, 3) := dk_180 0 82 (dk_at dksX5_joins_6 2 rfl rfl)
theorem dX5_joins_148 : decode cX5_joins 148 = .ok (.iconst 3, 1) := dk_6 (dk_at dksX5_joins_6 5 rfl rfl)
theorem dX5_joins_149 : decode cX5_joins 149 = .ok (.iload_n 3, 1) := dk_29 (dk_at dksX5_joins_6 6 rfl rfl)
theorem dX5_joins_150 : decode cX5_joins 150 = .ok (.invokevirtual 85, 3) := dk_182 0 85 (dk_at dksX5_joins_6 7 rfl rfl)
theorem dX5_joins_153 : decode cX5_joins 153 = .ok (.aload_n 0, 1) := dk_42 (dk_at dksX5_joins_6 10 rfl rfl)
theorem dX5_joins_154 : decode cX5_joins 154 = .ok (.aload_n 0, 1) := dk_42 (dk_at dksX5_joins_6 11 rfl rfl)
theorem dX5_joins_155 : decode cX5_joins 155 = .ok (.getfield 82, 3) := dk_180 0 82 (dk_at dksX5_joins_6 12 rfl rfl)
theorem dX5_joins_158 : decode cX5_joins 158 = .ok (.iconst 4, 1) := dk_7 (dk_at dksX5_joins_6 15 rfl rfl)
theorem dX5_joins_159 : decode cX5_joins 159 = .ok (.iconst 1, 1) := dk_4 (dk_at dksX5_joins_6 16 rfl rfl)
theorem dX5_joins_160 : decode cX5_joins 160 = .ok (.invokevirtual 85, 3) := dk_182 0 85 (dk_at dksX5_joins_6 17 rfl rfl)
theorem dX5_joins_163 : decode cX5_joins 163 = .ok (.aload_n 0, 1) := dk_42 (dk_at dksX5_joins_6 20 rfl rfl)
theorem dX5_joins_164 : decode cX5_joins 164 = .ok (.aload_n 0, 1) := dk_42 (dk_at dksX5_joins_6 21 rfl rfl)
theorem dX5_joins_165 : decode cX5_joins 165 = .ok (.getfield 82, 3) := dk_180 0 82 (dk_at dksX5_joins_7 0 rfl rfl)
theorem dX5_joins_168 : decode cX5_joins 168 = .ok (.iconst 5, 1) := dk_8 (dk_at dksX5_joins_7 3 rfl rfl)
theorem dX5_joins_169 : decode cX5_joins 169 = .ok (.iconst (-1), 1) := dk_2 (dk_at dksX5_joins_7 4 rfl rfl)
theorem dX5_joins_170 : decode cX5_joins 170 = .ok (.invokevirtual 85, 3) := dk_182 0 85 (dk_at dksX5_joins_7 5 rfl rfl)
theorem dX5_joins_173 : decode cX5_joins 173 = .ok (.aload_n 0, 1) := dk_42 (dk_at dksX5_joins_7 8 rfl rfl)
theorem dX5_joins_174 : decode cX5_joins 174 = .ok (.aload_n 0, 1) := dk_42 (dk_at dksX5_joins_7 9 rfl rfl)
theorem dX5_joins_175 : decode cX5_joins 175 = .ok (.getfield 82, 3) := dk_180 0 82 (dk_at dksX5_joins_7 10 rfl rfl)
theorem dX5_joins_178 : decode cX5_joins 178 = .ok (.bipush 8, 2) := dk_16 8 (dk_at dksX5_joins_7 13 rfl rfl)
theorem dX5_joins_180 : decode cX5_joins 180 = .ok (.iconst 2, 1) := dk_5 (dk_at dksX5_joins_7 15 rfl rfl)
theorem dX5_joins_181 : decode cX5_joins 181 = .ok (.invokevirtual 85, 3) := dk_182 0 85 (dk_at dksX5_joins_7 16 rfl rfl)
theorem dX5_joins_184 : decode cX5_joins 184 = .ok (.aload_n 0, 1) := dk_42 (dk_at dksX5_joins_7 19 rfl rfl)
theorem dX5_joins_185 : decode cX5_joins 185 = .ok (.aload_n 0, 1) := dk_42 (dk_at dksX5_joins_7 20 rfl rfl)
theorem dX5_joins_186 : decode cX5_joins 186 = .ok (.getfield 82, 3) := dk_180 0 82 (dk_at dksX5_joins_7 21 rfl rfl)
theorem dX5_joins_189 : decode cX5_joins 189 = .ok (.bipush 11, 2) := dk_16 11 (dk_at dksX5_joins_8 0 rfl rfl)
theorem dX5_joins_191 : decode cX5_joins 191 = .ok (.iconst 2, 1) := dk_5 (dk_at dksX5_joins_8 2 rfl rfl)
theorem dX5_joins_192 : decode cX5_joins 192 = .ok (.invokevirtual 85, 3) := dk_182 0 85 (dk_at dksX5_joins_8 3 rfl rfl)
theorem dX5_joins_195 : decode cX5_joins 195 = .ok (.iconst 0, 1) := dk_3 (dk_at dksX5_joins_8 6 rfl rfl)
theorem dX5_joins_196 : decode cX5_joins 196 = .ok (.ireturn, 1) := dk_172 (dk_at dksX5_joins_8 7 rfl rfl)
abbrev cX5_puts : ByteArray := prog_11_method_10_code
def yX5_puts : MethodName := ⟨RX5, "puts", "(III)V"⟩
def dkwX5_puts_0 : List UInt8 := [42, 180, 0, 7, 17, 0, 199, 16, 18, 27, 104, 96, 28, 96, 29, 79, 177]
abbrev dktX5_puts_0 : List UInt8 := dkwX5_puts_0 ++ []
theorem dksX5_puts_0 : cX5_puts.data.toList.drop 0 = dktX5_puts_0 := by decide +kernel
theorem dX5_puts_0 : decode cX5_puts 0 = .ok (.aload_n 0, 1) := dk_42 (dk_at dksX5_puts_0 0 rfl rfl)
theorem dX5_puts_1 : decode cX5_puts 1 = .ok (.getfield 7, 3) := dk_180 0 7 (dk_at dksX5_puts_0 1 rfl rfl)
theorem dX5_puts_4 : decode cX5_puts 4 = .ok (.sipush 199, 3) := dk_17 0 199 (dk_at dksX5_puts_0 4 rfl rfl)
theorem dX5_puts_7 : decode cX5_puts 7 = .ok (.bipush 18, 2) := dk_16 18 (dk_at dksX5_puts_0 7 rfl rfl)
theorem dX5_puts_9 : decode cX5_puts 9 = .ok (.iload_n 1, 1) := dk_27 (dk_at dksX5_puts_0 9 rfl rfl)
theorem dX5_puts_10 : decode cX5_puts 10 = .ok (.imul, 1) := dk_104 (dk_at dksX5_puts_0 10 rfl rfl)
theorem dX5_puts_11 : decode cX5_puts 11 = .ok (.iadd, 1) := dk_96 (dk_at dksX5_puts_0 11 rfl rfl)
theorem dX5_puts_12 : decode cX5_puts 12 = .ok (.iload_n 2, 1) := dk_28 (dk_at dksX5_puts_0 12 rfl rfl)
theorem dX5_puts_13 : decode cX5_puts 13 = .ok (.iadd, 1) := dk_96 (dk_at dksX5_puts_0 13 rfl rfl)
theorem dX5_puts_14 : decode cX5_puts 14 = .ok (.iload_n 3, 1) := dk_29 (dk_at dksX5_puts_0 14 rfl rfl)
theorem dX5_puts_15 : decode cX5_puts 15 = .ok (.iastore, 1) := dk_79 (dk_at dksX5_puts_0 15 rfl rfl)
theorem dX5_puts_16 : decode cX5_puts 16 = .ok (.return_, 1) := dk_177 (dk_at dksX5_puts_0 16 rfl rfl)
abbrev cX5_fail : ByteArray := prog_11_method_34_code
def yX5_fail : MethodName := ⟨RX5, "fail", "(I)I"⟩
def dkwX5_fail_0 : List UInt8 := [42, 182, 0, 73, 42, 42, 27, 182, 0, 111, 182, 0, 104, 172]
abbrev dktX5_fail_0 : List UInt8 := dkwX5_fail_0 ++ []
theorem dksX5_fail_0 : cX5_fail.data.toList.drop 0 = dktX5_fail_0 := by decide +kernel
theorem dX5_fail_0 : decode cX5_fail 0 = .ok (.aload_n 0, 1) := dk_42 (dk_at dksX5_fail_0 0 rfl rfl)
theorem dX5_fail_1 : decode cX5_fail 1 = .ok (.invokevirtual 73, 3) := dk_182 0 73 (dk_at dksX5_fail_0 1 rfl rfl)
theorem dX5_fail_4 : decode cX5_fail 4 = .ok (.aload_n 0, 1) := dk_42 (dk_at dksX5_fail_0 4 rfl rfl)
theorem dX5_fail_5 : decode cX5_fail 5 = .ok (.aload_n 0, 1) := dk_42 (dk_at dksX5_fail_0 5 rfl rfl)
theorem dX5_fail_6 : decode cX5_fail 6 = .ok (.iload_n 1, 1) := dk_27 (dk_at dksX5_fail_0 6 rfl rfl)
theorem dX5_fail_7 : decode cX5_fail 7 = .ok (.invokevirtual 111, 3) := dk_182 0 111 (dk_at dksX5_fail_0 7 rfl rfl)
theorem dX5_fail_10 : decode cX5_fail 10 = .ok (.invokevirtual 104, 3) := dk_182 0 104 (dk_at dksX5_fail_0 10 rfl rfl)
theorem dX5_fail_13 : decode cX5_fail 13 = .ok (.ireturn, 1) := dk_172 (dk_at dksX5_fail_0 13 rfl rfl)
abbrev cX5_breaks : ByteArray := prog_11_method_26_code
def yX5_breaks : MethodName := ⟨RX5, "breaks", "(I)I"⟩
def dkwX5_breaks_5 : List UInt8 := [46, 42, 180, 0, 82, 96, 79, 42, 27, 8, 2, 182, 0, 85, 42, 27, 16, 6, 3, 182, 0, 85, 3, 172]
abbrev dktX5_breaks_5 : List UInt8 := dkwX5_breaks_5 ++ []
def dkwX5_breaks_4 : List UInt8 := [104, 96, 92, 46, 42, 180, 0, 82, 96, 79, 42, 180, 0, 7, 17, 0, 187, 6, 28, 104, 96, 5, 96, 92]
abbrev dktX5_breaks_4 : List UInt8 := dkwX5_breaks_4 ++ dktX5_breaks_5
def dkwX5_breaks_3 : List UInt8 := [182, 0, 62, 29, 104, 42, 180, 0, 7, 6, 46, 108, 181, 0, 82, 42, 180, 0, 7, 17, 0, 187, 6, 28]
abbrev dktX5_breaks_3 : List UInt8 := dkwX5_breaks_3 ++ dktX5_breaks_4
def dkwX5_breaks_2 : List UInt8 := [6, 46, 42, 180, 0, 7, 4, 46, 42, 180, 0, 7, 6, 46, 112, 100, 62, 42, 42, 27, 16, 6]
abbrev dktX5_breaks_2 : List UInt8 := dkwX5_breaks_2 ++ dktX5_breaks_3
def dkwX5_breaks_1 : List UInt8 := [3, 182, 0, 85, 42, 3, 181, 0, 82, 42, 27, 8, 182, 0, 62, 61, 28, 155, 0, 84, 42, 180, 0, 7]
abbrev dktX5_breaks_1 : List UInt8 := dkwX5_breaks_1 ++ dktX5_breaks_2
def dkwX5_breaks_0 : List UInt8 := [42, 27, 182, 0, 89, 154, 0, 5, 4, 172, 42, 27, 7, 182, 0, 62, 154, 0, 5, 5, 172, 42, 27, 7]
abbrev dktX5_breaks_0 : List UInt8 := dkwX5_breaks_0 ++ dktX5_breaks_1
theorem dksX5_breaks_0 : cX5_breaks.data.toList.drop 0 = dktX5_breaks_0 := by decide +kernel
theorem dksX5_breaks_1 : cX5_breaks.data.toList.drop 24 = dktX5_breaks_1 := dk_seg dksX5_breaks_0 24 rfl rfl
theorem dksX5_breaks_2 : cX5_breaks.data.toList.drop 48 = dktX5_breaks_2 := dk_seg dksX5_breaks_1 24 rfl rfl
theorem dksX5_breaks_3 : cX5_breaks.data.toList.drop 70 = dktX5_breaks_3 := dk_seg dksX5_breaks_2 22 rfl rfl
theorem dksX5_breaks_4 : cX5_breaks.data.toList.drop 94 = dktX5_breaks_4 := dk_seg dksX5_breaks_3 24 rfl rfl
theorem dksX5_breaks_5 : cX5_breaks.data.toList.drop 118 = dktX5_breaks_5 := dk_seg dksX5_breaks_4 24 rfl rfl
theorem dX5_breaks_0 : decode cX5_breaks 0 = .ok (.aload_n 0, 1) := dk_42 (dk_at dksX5_breaks_0 0 rfl rfl)
theorem dX5_breaks_1 : decode cX5_breaks 1 = .ok (.iload_n 1, 1) := dk_27 (dk_at dksX5_breaks_0 1 rfl rfl)
theorem dX5_breaks_2 : decode cX5_breaks 2 = .ok (.invokevirtual 89, 3) := dk_182 0 89 (dk_at dksX5_breaks_0 2 rfl rfl)
theorem dX5_breaks_5 : decode cX5_breaks 5 = .ok (.ifCond .ne 5, 3) := dk_154 0 5 (dk_at dksX5_breaks_0 5 rfl rfl)
theorem dX5_breaks_8 : decode cX5_breaks 8 = .ok (.iconst 1, 1) := dk_4 (dk_at dksX5_breaks_0 8 rfl rfl)
theorem dX5_breaks_9 : decode cX5_breaks 9 = .ok (.ireturn, 1) := dk_172 (dk_at dksX5_breaks_0 9 rfl rfl)
theorem dX5_breaks_10 : decode cX5_breaks 10 = .ok (.aload_n 0, 1) := dk_42 (dk_at dksX5_breaks_0 10 rfl rfl)
theorem dX5_breaks_11 : decode cX5_breaks 11 = .ok (.iload_n 1, 1) := dk_27 (dk_at dksX5_breaks_0 11 rfl rfl)
theorem dX5_breaks_12 : decode cX5_breaks 12 = .ok (.iconst 4, 1) := dk_7 (dk_at dksX5_breaks_0 12 rfl rfl)
theorem dX5_breaks_13 : decode cX5_breaks 13 = .ok (.invokevirtual 62, 3) := dk_182 0 62 (dk_at dksX5_breaks_0 13 rfl rfl)
theorem dX5_breaks_16 : decode cX5_breaks 16 = .ok (.ifCond .ne 5, 3) := dk_154 0 5 (dk_at dksX5_breaks_0 16 rfl rfl)
theorem dX5_breaks_19 : decode cX5_breaks 19 = .ok (.iconst 2, 1) := dk_5 (dk_at dksX5_breaks_0 19 rfl rfl)
theorem dX5_breaks_20 : decode cX5_breaks 20 = .ok (.ireturn, 1) := dk_172 (dk_at dksX5_breaks_0 20 rfl rfl)
theorem dX5_breaks_21 : decode cX5_breaks 21 = .ok (.aload_n 0, 1) := dk_42 (dk_at dksX5_breaks_0 21 rfl rfl)
theorem dX5_breaks_22 : decode cX5_breaks 22 = .ok (.iload_n 1, 1) := dk_27 (dk_at dksX5_breaks_0 22 rfl rfl)
theorem dX5_breaks_23 : decode cX5_breaks 23 = .ok (.iconst 4, 1) := dk_7 (dk_at dksX5_breaks_0 23 rfl rfl)
theorem dX5_breaks_24 : decode cX5_breaks 24 = .ok (.iconst 0, 1) := dk_3 (dk_at dksX5_breaks_1 0 rfl rfl)
theorem dX5_breaks_25 : decode cX5_breaks 25 = .ok (.invokevirtual 85, 3) := dk_182 0 85 (dk_at dksX5_breaks_1 1 rfl rfl)
theorem dX5_breaks_28 : decode cX5_breaks 28 = .ok (.aload_n 0, 1) := dk_42 (dk_at dksX5_breaks_1 4 rfl rfl)
theorem dX5_breaks_29 : decode cX5_breaks 29 = .ok (.iconst 0, 1) := dk_3 (dk_at dksX5_breaks_1 5 rfl rfl)
theorem dX5_breaks_30 : decode cX5_breaks 30 = .ok (.putfield 82, 3) := dk_181 0 82 (dk_at dksX5_breaks_1 6 rfl rfl)
theorem dX5_breaks_33 : decode cX5_breaks 33 = .ok (.aload_n 0, 1) := dk_42 (dk_at dksX5_breaks_1 9 rfl rfl)
theorem dX5_breaks_34 : decode cX5_breaks 34 = .ok (.iload_n 1, 1) := dk_27 (dk_at dksX5_breaks_1 10 rfl rfl)
theorem dX5_breaks_35 : decode cX5_breaks 35 = .ok (.iconst 5, 1) := dk_8 (dk_at dksX5_breaks_1 11 rfl rfl)
theorem dX5_breaks_36 : decode cX5_breaks 36 = .ok (.invokevirtual 62, 3) := dk_182 0 62 (dk_at dksX5_breaks_1 12 rfl rfl)
theorem dX5_breaks_39 : decode cX5_breaks 39 = .ok (.istore_n 2, 1) := dk_61 (dk_at dksX5_breaks_1 15 rfl rfl)
theorem dX5_breaks_40 : decode cX5_breaks 40 = .ok (.iload_n 2, 1) := dk_28 (dk_at dksX5_breaks_1 16 rfl rfl)
theorem dX5_breaks_41 : decode cX5_breaks 41 = .ok (.ifCond .lt 84, 3) := dk_155 0 84 (dk_at dksX5_breaks_1 17 rfl rfl)
theorem dX5_breaks_44 : decode cX5_breaks 44 = .ok (.aload_n 0, 1) := dk_42 (dk_at dksX5_breaks_1 20 rfl rfl)
theorem dX5_breaks_45 : decode cX5_breaks 45 = .ok (.getfield 7, 3) := dk_180 0 7 (dk_at dksX5_breaks_1 21 rfl rfl)
theorem dX5_breaks_48 : decode cX5_breaks 48 = .ok (.iconst 3, 1) := dk_6 (dk_at dksX5_breaks_2 0 rfl rfl)
theorem dX5_breaks_49 : decode cX5_breaks 49 = .ok (.iaload, 1) := dk_46 (dk_at dksX5_breaks_2 1 rfl rfl)
theorem dX5_breaks_50 : decode cX5_breaks 50 = .ok (.aload_n 0, 1) := dk_42 (dk_at dksX5_breaks_2 2 rfl rfl)
theorem dX5_breaks_51 : decode cX5_breaks 51 = .ok (.getfield 7, 3) := dk_180 0 7 (dk_at dksX5_breaks_2 3 rfl rfl)
theorem dX5_breaks_54 : decode cX5_breaks 54 = .ok (.iconst 1, 1) := dk_4 (dk_at dksX5_breaks_2 6 rfl rfl)
theorem dX5_breaks_55 : decode cX5_breaks 55 = .ok (.iaload, 1) := dk_46 (dk_at dksX5_breaks_2 7 rfl rfl)
theorem dX5_breaks_56 : decode cX5_breaks 56 = .ok (.aload_n 0, 1) := dk_42 (dk_at dksX5_breaks_2 8 rfl rfl)
theorem dX5_breaks_57 : decode cX5_breaks 57 = .ok (.getfield 7, 3) := dk_180 0 7 (dk_at dksX5_breaks_2 9 rfl rfl)
theorem dX5_breaks_60 : decode cX5_breaks 60 = .ok (.iconst 3, 1) := dk_6 (dk_at dksX5_breaks_2 12 rfl rfl)
theorem dX5_breaks_61 : decode cX5_breaks 61 = .ok (.iaload, 1) := dk_46 (dk_at dksX5_breaks_2 13 rfl rfl)
theorem dX5_breaks_62 : decode cX5_breaks 62 = .ok (.irem, 1) := dk_112 (dk_at dksX5_breaks_2 14 rfl rfl)
theorem dX5_breaks_63 : decode cX5_breaks 63 = .ok (.isub, 1) := dk_100 (dk_at dksX5_breaks_2 15 rfl rfl)
theorem dX5_breaks_64 : decode cX5_breaks 64 = .ok (.istore_n 3, 1) := dk_62 (dk_at dksX5_breaks_2 16 rfl rfl)
theorem dX5_breaks_65 : decode cX5_breaks 65 = .ok (.aload_n 0, 1) := dk_42 (dk_at dksX5_breaks_2 17 rfl rfl)
theorem dX5_breaks_66 : decode cX5_breaks 66 = .ok (.aload_n 0, 1) := dk_42 (dk_at dksX5_breaks_2 18 rfl rfl)
theorem dX5_breaks_67 : decode cX5_breaks 67 = .ok (.iload_n 1, 1) := dk_27 (dk_at dksX5_breaks_2 19 rfl rfl)
theorem dX5_breaks_68 : decode cX5_breaks 68 = .ok (.bipush 6, 2) := dk_16 6 (dk_at dksX5_breaks_2 20 rfl rfl)
theorem dX5_breaks_70 : decode cX5_breaks 70 = .ok (.invokevirtual 62, 3) := dk_182 0 62 (dk_at dksX5_breaks_3 0 rfl rfl)
theorem dX5_breaks_73 : decode cX5_breaks 73 = .ok (.iload_n 3, 1) := dk_29 (dk_at dksX5_breaks_3 3 rfl rfl)
theorem dX5_breaks_74 : decode cX5_breaks 74 = .ok (.imul, 1) := dk_104 (dk_at dksX5_breaks_3 4 rfl rfl)
theorem dX5_breaks_75 : decode cX5_breaks 75 = .ok (.aload_n 0, 1) := dk_42 (dk_at dksX5_breaks_3 5 rfl rfl)
theorem dX5_breaks_76 : decode cX5_breaks 76 = .ok (.getfield 7, 3) := dk_180 0 7 (dk_at dksX5_breaks_3 6 rfl rfl)
theorem dX5_breaks_79 : decode cX5_breaks 79 = .ok (.iconst 3, 1) := dk_6 (dk_at dksX5_breaks_3 9 rfl rfl)
theorem dX5_breaks_80 : decode cX5_breaks 80 = .ok (.iaload, 1) := dk_46 (dk_at dksX5_breaks_3 10 rfl rfl)
theorem dX5_breaks_81 : decode cX5_breaks 81 = .ok (.idiv, 1) := dk_108 (dk_at dksX5_breaks_3 11 rfl rfl)
theorem dX5_breaks_82 : decode cX5_breaks 82 = .ok (.putfield 82, 3) := dk_181 0 82 (dk_at dksX5_breaks_3 12 rfl rfl)
theorem dX5_breaks_85 : decode cX5_breaks 85 = .ok (.aload_n 0, 1) := dk_42 (dk_at dksX5_breaks_3 15 rfl rfl)
theorem dX5_breaks_86 : decode cX5_breaks 86 = .ok (.getfield 7, 3) := dk_180 0 7 (dk_at dksX5_breaks_3 16 rfl rfl)
theorem dX5_breaks_89 : decode cX5_breaks 89 = .ok (.sipush 187, 3) := dk_17 0 187 (dk_at dksX5_breaks_3 19 rfl rfl)
theorem dX5_breaks_92 : decode cX5_breaks 92 = .ok (.iconst 3, 1) := dk_6 (dk_at dksX5_breaks_3 22 rfl rfl)
theorem dX5_breaks_93 : decode cX5_breaks 93 = .ok (.iload_n 2, 1) := dk_28 (dk_at dksX5_breaks_3 23 rfl rfl)
theorem dX5_breaks_94 : decode cX5_breaks 94 = .ok (.imul, 1) := dk_104 (dk_at dksX5_breaks_4 0 rfl rfl)
theorem dX5_breaks_95 : decode cX5_breaks 95 = .ok (.iadd, 1) := dk_96 (dk_at dksX5_breaks_4 1 rfl rfl)
theorem dX5_breaks_96 : decode cX5_breaks 96 = .ok (.dup2, 1) := dk_92 (dk_at dksX5_breaks_4 2 rfl rfl)
theorem dX5_breaks_97 : decode cX5_breaks 97 = .ok (.iaload, 1) := dk_46 (dk_at dksX5_breaks_4 3 rfl rfl)
theorem dX5_breaks_98 : decode cX5_breaks 98 = .ok (.aload_n 0, 1) := dk_42 (dk_at dksX5_breaks_4 4 rfl rfl)
theorem dX5_breaks_99 : decode cX5_breaks 99 = .ok (.getfield 82, 3) := dk_180 0 82 (dk_at dksX5_breaks_4 5 rfl rfl)
theorem dX5_breaks_102 : decode cX5_breaks 102 = .ok (.iadd, 1) := dk_96 (dk_at dksX5_breaks_4 8 rfl rfl)
theorem dX5_breaks_103 : decode cX5_breaks 103 = .ok (.iastore, 1) := dk_79 (dk_at dksX5_breaks_4 9 rfl rfl)
theorem dX5_breaks_104 : decode cX5_breaks 104 = .ok (.aload_n 0, 1) := dk_42 (dk_at dksX5_breaks_4 10 rfl rfl)
theorem dX5_breaks_105 : decode cX5_breaks 105 = .ok (.getfield 7, 3) := dk_180 0 7 (dk_at dksX5_breaks_4 11 rfl rfl)
theorem dX5_breaks_108 : decode cX5_breaks 108 = .ok (.sipush 187, 3) := dk_17 0 187 (dk_at dksX5_breaks_4 14 rfl rfl)
theorem dX5_breaks_111 : decode cX5_breaks 111 = .ok (.iconst 3, 1) := dk_6 (dk_at dksX5_breaks_4 17 rfl rfl)
theorem dX5_breaks_112 : decode cX5_breaks 112 = .ok (.iload_n 2, 1) := dk_28 (dk_at dksX5_breaks_4 18 rfl rfl)
theorem dX5_breaks_113 : decode cX5_breaks 113 = .ok (.imul, 1) := dk_104 (dk_at dksX5_breaks_4 19 rfl rfl)
theorem dX5_breaks_114 : decode cX5_breaks 114 = .ok (.iadd, 1) := dk_96 (dk_at dksX5_breaks_4 20 rfl rfl)
theorem dX5_breaks_115 : decode cX5_breaks 115 = .ok (.iconst 2, 1) := dk_5 (dk_at dksX5_breaks_4 21 rfl rfl)
theorem dX5_breaks_116 : decode cX5_breaks 116 = .ok (.iadd, 1) := dk_96 (dk_at dksX5_breaks_4 22 rfl rfl)
theorem dX5_breaks_117 : decode cX5_breaks 117 = .ok (.dup2, 1) := dk_92 (dk_at dksX5_breaks_4 23 rfl rfl)
theorem dX5_breaks_118 : decode cX5_breaks 118 = .ok (.iaload, 1) := dk_46 (dk_at dksX5_breaks_5 0 rfl rfl)
theorem dX5_breaks_119 : decode cX5_breaks 119 = .ok (.aload_n 0, 1) := dk_42 (dk_at dksX5_breaks_5 1 rfl rfl)
theorem dX5_breaks_120 : decode cX5_breaks 120 = .ok (.getfield 82, 3) := dk_180 0 82 (dk_at dksX5_breaks_5 2 rfl rfl)
theorem dX5_breaks_123 : decode cX5_breaks 123 = .ok (.iadd, 1) := dk_96 (dk_at dksX5_breaks_5 5 rfl rfl)
theorem dX5_breaks_124 : decode cX5_breaks 124 = .ok (.iastore, 1) := dk_79 (dk_at dksX5_breaks_5 6 rfl rfl)
theorem dX5_breaks_125 : decode cX5_breaks 125 = .ok (.aload_n 0, 1) := dk_42 (dk_at dksX5_breaks_5 7 rfl rfl)
theorem dX5_breaks_126 : decode cX5_breaks 126 = .ok (.iload_n 1, 1) := dk_27 (dk_at dksX5_breaks_5 8 rfl rfl)
theorem dX5_breaks_127 : decode cX5_breaks 127 = .ok (.iconst 5, 1) := dk_8 (dk_at dksX5_breaks_5 9 rfl rfl)
theorem dX5_breaks_128 : decode cX5_breaks 128 = .ok (.iconst (-1), 1) := dk_2 (dk_at dksX5_breaks_5 10 rfl rfl)
theorem dX5_breaks_129 : decode cX5_breaks 129 = .ok (.invokevirtual 85, 3) := dk_182 0 85 (dk_at dksX5_breaks_5 11 rfl rfl)
theorem dX5_breaks_132 : decode cX5_breaks 132 = .ok (.aload_n 0, 1) := dk_42 (dk_at dksX5_breaks_5 14 rfl rfl)
theorem dX5_breaks_133 : decode cX5_breaks 133 = .ok (.iload_n 1, 1) := dk_27 (dk_at dksX5_breaks_5 15 rfl rfl)
theorem dX5_breaks_134 : decode cX5_breaks 134 = .ok (.bipush 6, 2) := dk_16 6 (dk_at dksX5_breaks_5 16 rfl rfl)
theorem dX5_breaks_136 : decode cX5_breaks 136 = .ok (.iconst 0, 1) := dk_3 (dk_at dksX5_breaks_5 18 rfl rfl)
theorem dX5_breaks_137 : decode cX5_breaks 137 = .ok (.invokevirtual 85, 3) := dk_182 0 85 (dk_at dksX5_breaks_5 19 rfl rfl)
theorem dX5_breaks_140 : decode cX5_breaks 140 = .ok (.iconst 0, 1) := dk_3 (dk_at dksX5_breaks_5 22 rfl rfl)
theorem dX5_breaks_141 : decode cX5_breaks 141 = .ok (.ireturn, 1) := dk_172 (dk_at dksX5_breaks_5 23 rfl rfl)
abbrev cX5_isLink : ByteArray := prog_11_method_12_code
def yX5_isLink : MethodName := ⟨RX5, "isLink", "(I)Z"⟩
def dkwX5_isLink_0 : List UInt8 := [27, 3, 42, 180, 0, 7, 8, 46, 4, 100, 184, 0, 49, 172]
abbrev dktX5_isLink_0 : List UInt8 := dkwX5_isLink_0 ++ []
theorem dksX5_isLink_0 : cX5_isLink.data.toList.drop 0 = dktX5_isLink_0 := by decide +kernel
theorem dX5_isLink_0 : decode cX5_isLink 0 = .ok (.iload_n 1, 1) := dk_27 (dk_at dksX5_isLink_0 0 rfl rfl)
theorem dX5_isLink_1 : decode cX5_isLink 1 = .ok (.iconst 0, 1) := dk_3 (dk_at dksX5_isLink_0 1 rfl rfl)
theorem dX5_isLink_2 : decode cX5_isLink 2 = .ok (.aload_n 0, 1) := dk_42 (dk_at dksX5_isLink_0 2 rfl rfl)
theorem dX5_isLink_3 : decode cX5_isLink 3 = .ok (.getfield 7, 3) := dk_180 0 7 (dk_at dksX5_isLink_0 3 rfl rfl)
theorem dX5_isLink_6 : decode cX5_isLink 6 = .ok (.iconst 5, 1) := dk_8 (dk_at dksX5_isLink_0 6 rfl rfl)
theorem dX5_isLink_7 : decode cX5_isLink 7 = .ok (.iaload, 1) := dk_46 (dk_at dksX5_isLink_0 7 rfl rfl)
theorem dX5_isLink_8 : decode cX5_isLink 8 = .ok (.iconst 1, 1) := dk_4 (dk_at dksX5_isLink_0 8 rfl rfl)
theorem dX5_isLink_9 : decode cX5_isLink 9 = .ok (.isub, 1) := dk_100 (dk_at dksX5_isLink_0 9 rfl rfl)
theorem dX5_isLink_10 : decode cX5_isLink 10 = .ok (.invokestatic 49, 3) := dk_184 0 49 (dk_at dksX5_isLink_0 10 rfl rfl)
theorem dX5_isLink_13 : decode cX5_isLink 13 = .ok (.ireturn, 1) := dk_172 (dk_at dksX5_isLink_0 13 rfl rfl)
abbrev cX5_of : ByteArray := prog_11_method_9_code
def yX5_of : MethodName := ⟨RX5, "of", "(II)I"⟩
def dkwX5_of_0 : List UInt8 := [42, 180, 0, 7, 17, 0, 199, 16, 18, 27, 104, 96, 28, 96, 46, 172]
abbrev dktX5_of_0 : List UInt8 := dkwX5_of_0 ++ []
theorem dksX5_of_0 : cX5_of.data.toList.drop 0 = dktX5_of_0 := by decide +kernel
theorem dX5_of_0 : decode cX5_of 0 = .ok (.aload_n 0, 1) := dk_42 (dk_at dksX5_of_0 0 rfl rfl)
theorem dX5_of_1 : decode cX5_of 1 = .ok (.getfield 7, 3) := dk_180 0 7 (dk_at dksX5_of_0 1 rfl rfl)
theorem dX5_of_4 : decode cX5_of 4 = .ok (.sipush 199, 3) := dk_17 0 199 (dk_at dksX5_of_0 4 rfl rfl)
theorem dX5_of_7 : decode cX5_of 7 = .ok (.bipush 18, 2) := dk_16 18 (dk_at dksX5_of_0 7 rfl rfl)
theorem dX5_of_9 : decode cX5_of 9 = .ok (.iload_n 1, 1) := dk_27 (dk_at dksX5_of_0 9 rfl rfl)
theorem dX5_of_10 : decode cX5_of 10 = .ok (.imul, 1) := dk_104 (dk_at dksX5_of_0 10 rfl rfl)
theorem dX5_of_11 : decode cX5_of 11 = .ok (.iadd, 1) := dk_96 (dk_at dksX5_of_0 11 rfl rfl)
theorem dX5_of_12 : decode cX5_of 12 = .ok (.iload_n 2, 1) := dk_28 (dk_at dksX5_of_0 12 rfl rfl)
theorem dX5_of_13 : decode cX5_of 13 = .ok (.iadd, 1) := dk_96 (dk_at dksX5_of_0 13 rfl rfl)
theorem dX5_of_14 : decode cX5_of 14 = .ok (.iaload, 1) := dk_46 (dk_at dksX5_of_0 14 rfl rfl)
theorem dX5_of_15 : decode cX5_of 15 = .ok (.ireturn, 1) := dk_172 (dk_at dksX5_of_0 15 rfl rfl)
abbrev cX5_fix : ByteArray := prog_11_method_35_code
def yX5_fix : MethodName := ⟨RX5, "fix", "(I)I"⟩
def dkwX5_fix_0 : List UInt8 := [42, 182, 0, 73, 42, 42, 27, 182, 0, 114, 182, 0, 104, 172]
abbrev dktX5_fix_0 : List UInt8 := dkwX5_fix_0 ++ []
theorem dksX5_fix_0 : cX5_fix.data.toList.drop 0 = dktX5_fix_0 := by decide +kernel
theorem dX5_fix_0 : decode cX5_fix 0 = .ok (.aload_n 0, 1) := dk_42 (dk_at dksX5_fix_0 0 rfl rfl)
theorem dX5_fix_1 : decode cX5_fix 1 = .ok (.invokevirtual 73, 3) := dk_182 0 73 (dk_at dksX5_fix_0 1 rfl rfl)
theorem dX5_fix_4 : decode cX5_fix 4 = .ok (.aload_n 0, 1) := dk_42 (dk_at dksX5_fix_0 4 rfl rfl)
theorem dX5_fix_5 : decode cX5_fix 5 = .ok (.aload_n 0, 1) := dk_42 (dk_at dksX5_fix_0 5 rfl rfl)
theorem dX5_fix_6 : decode cX5_fix 6 = .ok (.iload_n 1, 1) := dk_27 (dk_at dksX5_fix_0 6 rfl rfl)
theorem dX5_fix_7 : decode cX5_fix 7 = .ok (.invokevirtual 114, 3) := dk_182 0 114 (dk_at dksX5_fix_0 7 rfl rfl)
theorem dX5_fix_10 : decode cX5_fix 10 = .ok (.invokevirtual 104, 3) := dk_182 0 104 (dk_at dksX5_fix_0 10 rfl rfl)
theorem dX5_fix_13 : decode cX5_fix 13 = .ok (.ireturn, 1) := dk_172 (dk_at dksX5_fix_0 13 rfl rfl)
abbrev cX5_mends : ByteArray := prog_11_method_27_code
def yX5_mends : MethodName := ⟨RX5, "mends", "(I)I"⟩
def dkwX5_mends_2 : List UInt8 := [180, 0, 82, 42, 28, 7, 182, 0, 62, 96, 181, 0, 82, 132, 2, 1, 167, 255, 228, 3, 172]
abbrev dktX5_mends_2 : List UInt8 := dkwX5_mends_2 ++ []
def dkwX5_mends_1 : List UInt8 := [7, 4, 182, 0, 85, 42, 3, 181, 0, 82, 3, 61, 28, 42, 180, 0, 7, 8, 46, 162, 0, 24, 42, 89]
abbrev dktX5_mends_1 : List UInt8 := dkwX5_mends_1 ++ dktX5_mends_2
def dkwX5_mends_0 : List UInt8 := [42, 27, 182, 0, 89, 154, 0, 5, 4, 172, 42, 27, 7, 182, 0, 62, 4, 160, 0, 5, 5, 172, 42, 27]
abbrev dktX5_mends_0 : List UInt8 := dkwX5_mends_0 ++ dktX5_mends_1
theorem dksX5_mends_0 : cX5_mends.data.toList.drop 0 = dktX5_mends_0 := by decide +kernel
theorem dksX5_mends_1 : cX5_mends.data.toList.drop 24 = dktX5_mends_1 := dk_seg dksX5_mends_0 24 rfl rfl
theorem dksX5_mends_2 : cX5_mends.data.toList.drop 48 = dktX5_mends_2 := dk_seg dksX5_mends_1 24 rfl rfl
theorem dX5_mends_0 : decode cX5_mends 0 = .ok (.aload_n 0, 1) := dk_42 (dk_at dksX5_mends_0 0 rfl rfl)
theorem dX5_mends_1 : decode cX5_mends 1 = .ok (.iload_n 1, 1) := dk_27 (dk_at dksX5_mends_0 1 rfl rfl)
theorem dX5_mends_2 : decode cX5_mends 2 = .ok (.invokevirtual 89, 3) := dk_182 0 89 (dk_at dksX5_mends_0 2 rfl rfl)
theorem dX5_mends_5 : decode cX5_mends 5 = .ok (.ifCond .ne 5, 3) := dk_154 0 5 (dk_at dksX5_mends_0 5 rfl rfl)
theorem dX5_mends_8 : decode cX5_mends 8 = .ok (.iconst 1, 1) := dk_4 (dk_at dksX5_mends_0 8 rfl rfl)
theorem dX5_mends_9 : decode cX5_mends 9 = .ok (.ireturn, 1) := dk_172 (dk_at dksX5_mends_0 9 rfl rfl)
theorem dX5_mends_10 : decode cX5_mends 10 = .ok (.aload_n 0, 1) := dk_42 (dk_at dksX5_mends_0 10 rfl rfl)
theorem dX5_mends_11 : decode cX5_mends 11 = .ok (.iload_n 1, 1) := dk_27 (dk_at dksX5_mends_0 11 rfl rfl)
theorem dX5_mends_12 : decode cX5_mends 12 = .ok (.iconst 4, 1) := dk_7 (dk_at dksX5_mends_0 12 rfl rfl)
theorem dX5_mends_13 : decode cX5_mends 13 = .ok (.invokevirtual 62, 3) := dk_182 0 62 (dk_at dksX5_mends_0 13 rfl rfl)
theorem dX5_mends_16 : decode cX5_mends 16 = .ok (.iconst 1, 1) := dk_4 (dk_at dksX5_mends_0 16 rfl rfl)
theorem dX5_mends_17 : decode cX5_mends 17 = .ok (.if_icmp .ne 5, 3) := dk_160 0 5 (dk_at dksX5_mends_0 17 rfl rfl)
theorem dX5_mends_20 : decode cX5_mends 20 = .ok (.iconst 2, 1) := dk_5 (dk_at dksX5_mends_0 20 rfl rfl)
theorem dX5_mends_21 : decode cX5_mends 21 = .ok (.ireturn, 1) := dk_172 (dk_at dksX5_mends_0 21 rfl rfl)
theorem dX5_mends_22 : decode cX5_mends 22 = .ok (.aload_n 0, 1) := dk_42 (dk_at dksX5_mends_0 22 rfl rfl)
theorem dX5_mends_23 : decode cX5_mends 23 = .ok (.iload_n 1, 1) := dk_27 (dk_at dksX5_mends_0 23 rfl rfl)
theorem dX5_mends_24 : decode cX5_mends 24 = .ok (.iconst 4, 1) := dk_7 (dk_at dksX5_mends_1 0 rfl rfl)
theorem dX5_mends_25 : decode cX5_mends 25 = .ok (.iconst 1, 1) := dk_4 (dk_at dksX5_mends_1 1 rfl rfl)
theorem dX5_mends_26 : decode cX5_mends 26 = .ok (.invokevirtual 85, 3) := dk_182 0 85 (dk_at dksX5_mends_1 2 rfl rfl)
theorem dX5_mends_29 : decode cX5_mends 29 = .ok (.aload_n 0, 1) := dk_42 (dk_at dksX5_mends_1 5 rfl rfl)
theorem dX5_mends_30 : decode cX5_mends 30 = .ok (.iconst 0, 1) := dk_3 (dk_at dksX5_mends_1 6 rfl rfl)
theorem dX5_mends_31 : decode cX5_mends 31 = .ok (.putfield 82, 3) := dk_181 0 82 (dk_at dksX5_mends_1 7 rfl rfl)
theorem dX5_mends_34 : decode cX5_mends 34 = .ok (.iconst 0, 1) := dk_3 (dk_at dksX5_mends_1 10 rfl rfl)
theorem dX5_mends_35 : decode cX5_mends 35 = .ok (.istore_n 2, 1) := dk_61 (dk_at dksX5_mends_1 11 rfl rfl)
theorem dX5_mends_36 : decode cX5_mends 36 = .ok (.iload_n 2, 1) := dk_28 (dk_at dksX5_mends_1 12 rfl rfl)
theorem dX5_mends_37 : decode cX5_mends 37 = .ok (.aload_n 0, 1) := dk_42 (dk_at dksX5_mends_1 13 rfl rfl)
theorem dX5_mends_38 : decode cX5_mends 38 = .ok (.getfield 7, 3) := dk_180 0 7 (dk_at dksX5_mends_1 14 rfl rfl)
theorem dX5_mends_41 : decode cX5_mends 41 = .ok (.iconst 5, 1) := dk_8 (dk_at dksX5_mends_1 17 rfl rfl)
theorem dX5_mends_42 : decode cX5_mends 42 = .ok (.iaload, 1) := dk_46 (dk_at dksX5_mends_1 18 rfl rfl)
theorem dX5_mends_43 : decode cX5_mends 43 = .ok (.if_icmp .ge 24, 3) := dk_162 0 24 (dk_at dksX5_mends_1 19 rfl rfl)
theorem dX5_mends_46 : decode cX5_mends 46 = .ok (.aload_n 0, 1) := dk_42 (dk_at dksX5_mends_1 22 rfl rfl)
theorem dX5_mends_47 : decode cX5_mends 47 = .ok (.dup, 1) := dk_89 (dk_at dksX5_mends_1 23 rfl rfl)
theorem dX5_mends_48 : decode cX5_mends 48 = .ok (.getfield 82, 3) := dk_180 0 82 (dk_at dksX5_mends_2 0 rfl rfl)
theorem dX5_mends_51 : decode cX5_mends 51 = .ok (.aload_n 0, 1) := dk_42 (dk_at dksX5_mends_2 3 rfl rfl)
theorem dX5_mends_52 : decode cX5_mends 52 = .ok (.iload_n 2, 1) := dk_28 (dk_at dksX5_mends_2 4 rfl rfl)
theorem dX5_mends_53 : decode cX5_mends 53 = .ok (.iconst 4, 1) := dk_7 (dk_at dksX5_mends_2 5 rfl rfl)
theorem dX5_mends_54 : decode cX5_mends 54 = .ok (.invokevirtual 62, 3) := dk_182 0 62 (dk_at dksX5_mends_2 6 rfl rfl)
theorem dX5_mends_57 : decode cX5_mends 57 = .ok (.iadd, 1) := dk_96 (dk_at dksX5_mends_2 9 rfl rfl)
theorem dX5_mends_58 : decode cX5_mends 58 = .ok (.putfield 82, 3) := dk_181 0 82 (dk_at dksX5_mends_2 10 rfl rfl)
theorem dX5_mends_61 : decode cX5_mends 61 = .ok (.iinc 2 1, 3) := dk_132 2 1 (dk_at dksX5_mends_2 13 rfl rfl)
theorem dX5_mends_64 : decode cX5_mends 64 = .ok (.goto (-28), 3) := dk_167 255 228 (dk_at dksX5_mends_2 16 rfl rfl)
theorem dX5_mends_67 : decode cX5_mends 67 = .ok (.iconst 0, 1) := dk_3 (dk_at dksX5_mends_2 19 rfl rfl)
theorem dX5_mends_68 : decode cX5_mends 68 = .ok (.ireturn, 1) := dk_172 (dk_at dksX5_mends_2 20 rfl rfl)
abbrev cX5_moveHost : ByteArray := prog_11_method_36_code
def yX5_moveHost : MethodName := ⟨RX5, "moveHost", "(II)I"⟩
def dkwX5_moveHost_0 : List UInt8 := [42, 182, 0, 73, 42, 42, 27, 28, 182, 0, 117, 182, 0, 104, 172]
abbrev dktX5_moveHost_0 : List UInt8 := dkwX5_moveHost_0 ++ []
theorem dksX5_moveHost_0 : cX5_moveHost.data.toList.drop 0 = dktX5_moveHost_0 := by decide +kernel
theorem dX5_moveHost_0 : decode cX5_moveHost 0 = .ok (.aload_n 0, 1) := dk_42 (dk_at dksX5_moveHost_0 0 rfl rfl)
theorem dX5_moveHost_1 : decode cX5_moveHost 1 = .ok (.invokevirtual 73, 3) := dk_182 0 73 (dk_at dksX5_moveHost_0 1 rfl rfl)
theorem dX5_moveHost_4 : decode cX5_moveHost 4 = .ok (.aload_n 0, 1) := dk_42 (dk_at dksX5_moveHost_0 4 rfl rfl)
theorem dX5_moveHost_5 : decode cX5_moveHost 5 = .ok (.aload_n 0, 1) := dk_42 (dk_at dksX5_moveHost_0 5 rfl rfl)
theorem dX5_moveHost_6 : decode cX5_moveHost 6 = .ok (.iload_n 1, 1) := dk_27 (dk_at dksX5_moveHost_0 6 rfl rfl)
theorem dX5_moveHost_7 : decode cX5_moveHost 7 = .ok (.iload_n 2, 1) := dk_28 (dk_at dksX5_moveHost_0 7 rfl rfl)
theorem dX5_moveHost_8 : decode cX5_moveHost 8 = .ok (.invokevirtual 117, 3) := dk_182 0 117 (dk_at dksX5_moveHost_0 8 rfl rfl)
theorem dX5_moveHost_11 : decode cX5_moveHost 11 = .ok (.invokevirtual 104, 3) := dk_182 0 104 (dk_at dksX5_moveHost_0 11 rfl rfl)
theorem dX5_moveHost_14 : decode cX5_moveHost 14 = .ok (.ireturn, 1) := dk_172 (dk_at dksX5_moveHost_0 14 rfl rfl)
abbrev cX5_moves : ByteArray := prog_11_method_28_code
def yX5_moves : MethodName := ⟨RX5, "moves", "(II)I"⟩
def dkwX5_moves_1 : List UInt8 := [17, 0, 179, 27, 96, 46, 181, 0, 82, 42, 180, 0, 7, 17, 0, 179, 27, 96, 28, 79, 3, 172]
abbrev dktX5_moves_1 : List UInt8 := dkwX5_moves_1 ++ []
def dkwX5_moves_0 : List UInt8 := [27, 184, 0, 92, 153, 0, 11, 42, 28, 182, 0, 79, 154, 0, 5, 4, 172, 42, 42, 180, 0, 7]
abbrev dktX5_moves_0 : List UInt8 := dkwX5_moves_0 ++ dktX5_moves_1
theorem dksX5_moves_0 : cX5_moves.data.toList.drop 0 = dktX5_moves_0 := by decide +kernel
theorem dksX5_moves_1 : cX5_moves.data.toList.drop 22 = dktX5_moves_1 := dk_seg dksX5_moves_0 22 rfl rfl
theorem dX5_moves_0 : decode cX5_moves 0 = .ok (.iload_n 1, 1) := dk_27 (dk_at dksX5_moves_0 0 rfl rfl)
theorem dX5_moves_1 : decode cX5_moves 1 = .ok (.invokestatic 92, 3) := dk_184 0 92 (dk_at dksX5_moves_0 1 rfl rfl)
theorem dX5_moves_4 : decode cX5_moves 4 = .ok (.ifCond .eq 11, 3) := dk_153 0 11 (dk_at dksX5_moves_0 4 rfl rfl)
theorem dX5_moves_7 : decode cX5_moves 7 = .ok (.aload_n 0, 1) := dk_42 (dk_at dksX5_moves_0 7 rfl rfl)
theorem dX5_moves_8 : decode cX5_moves 8 = .ok (.iload_n 2, 1) := dk_28 (dk_at dksX5_moves_0 8 rfl rfl)
theorem dX5_moves_9 : decode cX5_moves 9 = .ok (.invokevirtual 79, 3) := dk_182 0 79 (dk_at dksX5_moves_0 9 rfl rfl)
theorem dX5_moves_12 : decode cX5_moves 12 = .ok (.ifCond .ne 5, 3) := dk_154 0 5 (dk_at dksX5_moves_0 12 rfl rfl)
theorem dX5_moves_15 : decode cX5_moves 15 = .ok (.iconst 1, 1) := dk_4 (dk_at dksX5_moves_0 15 rfl rfl)
theorem dX5_moves_16 : decode cX5_moves 16 = .ok (.ireturn, 1) := dk_172 (dk_at dksX5_moves_0 16 rfl rfl)
theorem dX5_moves_17 : decode cX5_moves 17 = .ok (.aload_n 0, 1) := dk_42 (dk_at dksX5_moves_0 17 rfl rfl)
theorem dX5_moves_18 : decode cX5_moves 18 = .ok (.aload_n 0, 1) := dk_42 (dk_at dksX5_moves_0 18 rfl rfl)
theorem dX5_moves_19 : decode cX5_moves 19 = .ok (.getfield 7, 3) := dk_180 0 7 (dk_at dksX5_moves_0 19 rfl rfl)
theorem dX5_moves_22 : decode cX5_moves 22 = .ok (.sipush 179, 3) := dk_17 0 179 (dk_at dksX5_moves_1 0 rfl rfl)
theorem dX5_moves_25 : decode cX5_moves 25 = .ok (.iload_n 1, 1) := dk_27 (dk_at dksX5_moves_1 3 rfl rfl)
theorem dX5_moves_26 : decode cX5_moves 26 = .ok (.iadd, 1) := dk_96 (dk_at dksX5_moves_1 4 rfl rfl)
theorem dX5_moves_27 : decode cX5_moves 27 = .ok (.iaload, 1) := dk_46 (dk_at dksX5_moves_1 5 rfl rfl)
theorem dX5_moves_28 : decode cX5_moves 28 = .ok (.putfield 82, 3) := dk_181 0 82 (dk_at dksX5_moves_1 6 rfl rfl)
theorem dX5_moves_31 : decode cX5_moves 31 = .ok (.aload_n 0, 1) := dk_42 (dk_at dksX5_moves_1 9 rfl rfl)
theorem dX5_moves_32 : decode cX5_moves 32 = .ok (.getfield 7, 3) := dk_180 0 7 (dk_at dksX5_moves_1 10 rfl rfl)
theorem dX5_moves_35 : decode cX5_moves 35 = .ok (.sipush 179, 3) := dk_17 0 179 (dk_at dksX5_moves_1 13 rfl rfl)
theorem dX5_moves_38 : decode cX5_moves 38 = .ok (.iload_n 1, 1) := dk_27 (dk_at dksX5_moves_1 16 rfl rfl)
theorem dX5_moves_39 : decode cX5_moves 39 = .ok (.iadd, 1) := dk_96 (dk_at dksX5_moves_1 17 rfl rfl)
theorem dX5_moves_40 : decode cX5_moves 40 = .ok (.iload_n 2, 1) := dk_28 (dk_at dksX5_moves_1 18 rfl rfl)
theorem dX5_moves_41 : decode cX5_moves 41 = .ok (.iastore, 1) := dk_79 (dk_at dksX5_moves_1 19 rfl rfl)
theorem dX5_moves_42 : decode cX5_moves 42 = .ok (.iconst 0, 1) := dk_3 (dk_at dksX5_moves_1 20 rfl rfl)
theorem dX5_moves_43 : decode cX5_moves 43 = .ok (.ireturn, 1) := dk_172 (dk_at dksX5_moves_1 21 rfl rfl)
abbrev cX5_isHost : ByteArray := prog_11_method_13_code
def yX5_isHost : MethodName := ⟨RX5, "isHost", "(I)Z"⟩
def dkwX5_isHost_0 : List UInt8 := [26, 3, 16, 7, 184, 0, 49, 172]
abbrev dktX5_isHost_0 : List UInt8 := dkwX5_isHost_0 ++ []
theorem dksX5_isHost_0 : cX5_isHost.data.toList.drop 0 = dktX5_isHost_0 := by decide +kernel
theorem dX5_isHost_0 : decode cX5_isHost 0 = .ok (.iload_n 0, 1) := dk_26 (dk_at dksX5_isHost_0 0 rfl rfl)
theorem dX5_isHost_1 : decode cX5_isHost 1 = .ok (.iconst 0, 1) := dk_3 (dk_at dksX5_isHost_0 1 rfl rfl)
theorem dX5_isHost_2 : decode cX5_isHost 2 = .ok (.bipush 7, 2) := dk_16 7 (dk_at dksX5_isHost_0 2 rfl rfl)
theorem dX5_isHost_4 : decode cX5_isHost 4 = .ok (.invokestatic 49, 3) := dk_184 0 49 (dk_at dksX5_isHost_0 4 rfl rfl)
theorem dX5_isHost_7 : decode cX5_isHost 7 = .ok (.ireturn, 1) := dk_172 (dk_at dksX5_isHost_0 7 rfl rfl)
abbrev cX5_bid : ByteArray := prog_11_method_37_code
def yX5_bid : MethodName := ⟨RX5, "bid", "(III)I"⟩
def dkwX5_bid_0 : List UInt8 := [42, 182, 0, 73, 42, 42, 27, 28, 29, 182, 0, 120, 182, 0, 104, 172]
abbrev dktX5_bid_0 : List UInt8 := dkwX5_bid_0 ++ []
theorem dksX5_bid_0 : cX5_bid.data.toList.drop 0 = dktX5_bid_0 := by decide +kernel
theorem dX5_bid_0 : decode cX5_bid 0 = .ok (.aload_n 0, 1) := dk_42 (dk_at dksX5_bid_0 0 rfl rfl)
theorem dX5_bid_1 : decode cX5_bid 1 = .ok (.invokevirtual 73, 3) := dk_182 0 73 (dk_at dksX5_bid_0 1 rfl rfl)
theorem dX5_bid_4 : decode cX5_bid 4 = .ok (.aload_n 0, 1) := dk_42 (dk_at dksX5_bid_0 4 rfl rfl)
theorem dX5_bid_5 : decode cX5_bid 5 = .ok (.aload_n 0, 1) := dk_42 (dk_at dksX5_bid_0 5 rfl rfl)
theorem dX5_bid_6 : decode cX5_bid 6 = .ok (.iload_n 1, 1) := dk_27 (dk_at dksX5_bid_0 6 rfl rfl)
theorem dX5_bid_7 : decode cX5_bid 7 = .ok (.iload_n 2, 1) := dk_28 (dk_at dksX5_bid_0 7 rfl rfl)
theorem dX5_bid_8 : decode cX5_bid 8 = .ok (.iload_n 3, 1) := dk_29 (dk_at dksX5_bid_0 8 rfl rfl)
theorem dX5_bid_9 : decode cX5_bid 9 = .ok (.invokevirtual 120, 3) := dk_182 0 120 (dk_at dksX5_bid_0 9 rfl rfl)
theorem dX5_bid_12 : decode cX5_bid 12 = .ok (.invokevirtual 104, 3) := dk_182 0 104 (dk_at dksX5_bid_0 12 rfl rfl)
theorem dX5_bid_15 : decode cX5_bid 15 = .ok (.ireturn, 1) := dk_172 (dk_at dksX5_bid_0 15 rfl rfl)
abbrev cX5_bids : ByteArray := prog_11_method_29_code
def yX5_bids : MethodName := ⟨RX5, "bids", "(III)I"⟩
def dkwX5_bids_2 : List UInt8 := [16, 14, 27, 96, 29, 182, 0, 85, 3, 172]
abbrev dktX5_bids_2 : List UInt8 := dkwX5_bids_2 ++ []
def dkwX5_bids_1 : List UInt8 := [184, 0, 49, 154, 0, 5, 5, 172, 42, 42, 28, 16, 14, 27, 96, 182, 0, 62, 181, 0, 82, 42, 28]
abbrev dktX5_bids_1 : List UInt8 := dkwX5_bids_1 ++ dktX5_bids_2
def dkwX5_bids_0 : List UInt8 := [27, 184, 0, 95, 153, 0, 11, 42, 28, 182, 0, 89, 154, 0, 5, 4, 172, 29, 3, 17, 3, 232]
abbrev dktX5_bids_0 : List UInt8 := dkwX5_bids_0 ++ dktX5_bids_1
theorem dksX5_bids_0 : cX5_bids.data.toList.drop 0 = dktX5_bids_0 := by decide +kernel
theorem dksX5_bids_1 : cX5_bids.data.toList.drop 22 = dktX5_bids_1 := dk_seg dksX5_bids_0 22 rfl rfl
theorem dksX5_bids_2 : cX5_bids.data.toList.drop 45 = dktX5_bids_2 := dk_seg dksX5_bids_1 23 rfl rfl
theorem dX5_bids_0 : decode cX5_bids 0 = .ok (.iload_n 1, 1) := dk_27 (dk_at dksX5_bids_0 0 rfl rfl)
theorem dX5_bids_1 : decode cX5_bids 1 = .ok (.invokestatic 95, 3) := dk_184 0 95 (dk_at dksX5_bids_0 1 rfl rfl)
theorem dX5_bids_4 : decode cX5_bids 4 = .ok (.ifCond .eq 11, 3) := dk_153 0 11 (dk_at dksX5_bids_0 4 rfl rfl)
theorem dX5_bids_7 : decode cX5_bids 7 = .ok (.aload_n 0, 1) := dk_42 (dk_at dksX5_bids_0 7 rfl rfl)
theorem dX5_bids_8 : decode cX5_bids 8 = .ok (.iload_n 2, 1) := dk_28 (dk_at dksX5_bids_0 8 rfl rfl)
theorem dX5_bids_9 : decode cX5_bids 9 = .ok (.invokevirtual 89, 3) := dk_182 0 89 (dk_at dksX5_bids_0 9 rfl rfl)
theorem dX5_bids_12 : decode cX5_bids 12 = .ok (.ifCond .ne 5, 3) := dk_154 0 5 (dk_at dksX5_bids_0 12 rfl rfl)
theorem dX5_bids_15 : decode cX5_bids 15 = .ok (.iconst 1, 1) := dk_4 (dk_at dksX5_bids_0 15 rfl rfl)
theorem dX5_bids_16 : decode cX5_bids 16 = .ok (.ireturn, 1) := dk_172 (dk_at dksX5_bids_0 16 rfl rfl)
theorem dX5_bids_17 : decode cX5_bids 17 = .ok (.iload_n 3, 1) := dk_29 (dk_at dksX5_bids_0 17 rfl rfl)
theorem dX5_bids_18 : decode cX5_bids 18 = .ok (.iconst 0, 1) := dk_3 (dk_at dksX5_bids_0 18 rfl rfl)
theorem dX5_bids_19 : decode cX5_bids 19 = .ok (.sipush 1000, 3) := dk_17 3 232 (dk_at dksX5_bids_0 19 rfl rfl)
theorem dX5_bids_22 : decode cX5_bids 22 = .ok (.invokestatic 49, 3) := dk_184 0 49 (dk_at dksX5_bids_1 0 rfl rfl)
theorem dX5_bids_25 : decode cX5_bids 25 = .ok (.ifCond .ne 5, 3) := dk_154 0 5 (dk_at dksX5_bids_1 3 rfl rfl)
theorem dX5_bids_28 : decode cX5_bids 28 = .ok (.iconst 2, 1) := dk_5 (dk_at dksX5_bids_1 6 rfl rfl)
theorem dX5_bids_29 : decode cX5_bids 29 = .ok (.ireturn, 1) := dk_172 (dk_at dksX5_bids_1 7 rfl rfl)
theorem dX5_bids_30 : decode cX5_bids 30 = .ok (.aload_n 0, 1) := dk_42 (dk_at dksX5_bids_1 8 rfl rfl)
theorem dX5_bids_31 : decode cX5_bids 31 = .ok (.aload_n 0, 1) := dk_42 (dk_at dksX5_bids_1 9 rfl rfl)
theorem dX5_bids_32 : decode cX5_bids 32 = .ok (.iload_n 2, 1) := dk_28 (dk_at dksX5_bids_1 10 rfl rfl)
theorem dX5_bids_33 : decode cX5_bids 33 = .ok (.bipush 14, 2) := dk_16 14 (dk_at dksX5_bids_1 11 rfl rfl)
theorem dX5_bids_35 : decode cX5_bids 35 = .ok (.iload_n 1, 1) := dk_27 (dk_at dksX5_bids_1 13 rfl rfl)
theorem dX5_bids_36 : decode cX5_bids 36 = .ok (.iadd, 1) := dk_96 (dk_at dksX5_bids_1 14 rfl rfl)
theorem dX5_bids_37 : decode cX5_bids 37 = .ok (.invokevirtual 62, 3) := dk_182 0 62 (dk_at dksX5_bids_1 15 rfl rfl)
theorem dX5_bids_40 : decode cX5_bids 40 = .ok (.putfield 82, 3) := dk_181 0 82 (dk_at dksX5_bids_1 18 rfl rfl)
theorem dX5_bids_43 : decode cX5_bids 43 = .ok (.aload_n 0, 1) := dk_42 (dk_at dksX5_bids_1 21 rfl rfl)
theorem dX5_bids_44 : decode cX5_bids 44 = .ok (.iload_n 2, 1) := dk_28 (dk_at dksX5_bids_1 22 rfl rfl)
theorem dX5_bids_45 : decode cX5_bids 45 = .ok (.bipush 14, 2) := dk_16 14 (dk_at dksX5_bids_2 0 rfl rfl)
theorem dX5_bids_47 : decode cX5_bids 47 = .ok (.iload_n 1, 1) := dk_27 (dk_at dksX5_bids_2 2 rfl rfl)
theorem dX5_bids_48 : decode cX5_bids 48 = .ok (.iadd, 1) := dk_96 (dk_at dksX5_bids_2 3 rfl rfl)
theorem dX5_bids_49 : decode cX5_bids 49 = .ok (.iload_n 3, 1) := dk_29 (dk_at dksX5_bids_2 4 rfl rfl)
theorem dX5_bids_50 : decode cX5_bids 50 = .ok (.invokevirtual 85, 3) := dk_182 0 85 (dk_at dksX5_bids_2 5 rfl rfl)
theorem dX5_bids_53 : decode cX5_bids 53 = .ok (.iconst 0, 1) := dk_3 (dk_at dksX5_bids_2 8 rfl rfl)
theorem dX5_bids_54 : decode cX5_bids 54 = .ok (.ireturn, 1) := dk_172 (dk_at dksX5_bids_2 9 rfl rfl)
abbrev cX5_isTenant : ByteArray := prog_11_method_14_code
def yX5_isTenant : MethodName := ⟨RX5, "isTenant", "(I)Z"⟩
def dkwX5_isTenant_0 : List UInt8 := [26, 3, 6, 184, 0, 49, 172]
abbrev dktX5_isTenant_0 : List UInt8 := dkwX5_isTenant_0 ++ []
theorem dksX5_isTenant_0 : cX5_isTenant.data.toList.drop 0 = dktX5_isTenant_0 := by decide +kernel
theorem dX5_isTenant_0 : decode cX5_isTenant 0 = .ok (.iload_n 0, 1) := dk_26 (dk_at dksX5_isTenant_0 0 rfl rfl)
theorem dX5_isTenant_1 : decode cX5_isTenant 1 = .ok (.iconst 0, 1) := dk_3 (dk_at dksX5_isTenant_0 1 rfl rfl)
theorem dX5_isTenant_2 : decode cX5_isTenant 2 = .ok (.iconst 3, 1) := dk_6 (dk_at dksX5_isTenant_0 2 rfl rfl)
theorem dX5_isTenant_3 : decode cX5_isTenant 3 = .ok (.invokestatic 49, 3) := dk_184 0 49 (dk_at dksX5_isTenant_0 3 rfl rfl)
theorem dX5_isTenant_6 : decode cX5_isTenant 6 = .ok (.ireturn, 1) := dk_172 (dk_at dksX5_isTenant_0 6 rfl rfl)
abbrev cX5_grant : ByteArray := prog_11_method_38_code
def yX5_grant : MethodName := ⟨RX5, "grant", "(II)I"⟩
def dkwX5_grant_3 : List UInt8 := [92, 46, 28, 96, 79, 42, 42, 180, 0, 7, 17, 0, 187, 6, 27, 104, 96, 46, 182, 0, 76, 172]
abbrev dktX5_grant_3 : List UInt8 := dkwX5_grant_3 ++ []
def dkwX5_grant_2 : List UInt8 := [164, 0, 9, 42, 6, 182, 0, 70, 172, 42, 182, 0, 73, 42, 180, 0, 7, 17, 0, 187, 6, 27, 104, 96]
abbrev dktX5_grant_2 : List UInt8 := dkwX5_grant_2 ++ dktX5_grant_3
def dkwX5_grant_1 : List UInt8 := [42, 5, 182, 0, 70, 172, 42, 180, 0, 7, 17, 0, 187, 6, 27, 104, 96, 46, 28, 96, 18, 123]
abbrev dktX5_grant_1 : List UInt8 := dkwX5_grant_1 ++ dktX5_grant_2
def dkwX5_grant_0 : List UInt8 := [27, 184, 0, 95, 154, 0, 9, 42, 4, 182, 0, 70, 172, 28, 3, 17, 39, 16, 184, 0, 49, 154, 0, 9]
abbrev dktX5_grant_0 : List UInt8 := dkwX5_grant_0 ++ dktX5_grant_1
theorem dksX5_grant_0 : cX5_grant.data.toList.drop 0 = dktX5_grant_0 := by decide +kernel
theorem dksX5_grant_1 : cX5_grant.data.toList.drop 24 = dktX5_grant_1 := dk_seg dksX5_grant_0 24 rfl rfl
theorem dksX5_grant_2 : cX5_grant.data.toList.drop 46 = dktX5_grant_2 := dk_seg dksX5_grant_1 22 rfl rfl
theorem dksX5_grant_3 : cX5_grant.data.toList.drop 70 = dktX5_grant_3 := dk_seg dksX5_grant_2 24 rfl rfl
theorem dX5_grant_0 : decode cX5_grant 0 = .ok (.iload_n 1, 1) := dk_27 (dk_at dksX5_grant_0 0 rfl rfl)
theorem dX5_grant_1 : decode cX5_grant 1 = .ok (.invokestatic 95, 3) := dk_184 0 95 (dk_at dksX5_grant_0 1 rfl rfl)
theorem dX5_grant_4 : decode cX5_grant 4 = .ok (.ifCond .ne 9, 3) := dk_154 0 9 (dk_at dksX5_grant_0 4 rfl rfl)
theorem dX5_grant_7 : decode cX5_grant 7 = .ok (.aload_n 0, 1) := dk_42 (dk_at dksX5_grant_0 7 rfl rfl)
theorem dX5_grant_8 : decode cX5_grant 8 = .ok (.iconst 1, 1) := dk_4 (dk_at dksX5_grant_0 8 rfl rfl)
theorem dX5_grant_9 : decode cX5_grant 9 = .ok (.invokevirtual 70, 3) := dk_182 0 70 (dk_at dksX5_grant_0 9 rfl rfl)
theorem dX5_grant_12 : decode cX5_grant 12 = .ok (.ireturn, 1) := dk_172 (dk_at dksX5_grant_0 12 rfl rfl)
theorem dX5_grant_13 : decode cX5_grant 13 = .ok (.iload_n 2, 1) := dk_28 (dk_at dksX5_grant_0 13 rfl rfl)
theorem dX5_grant_14 : decode cX5_grant 14 = .ok (.iconst 0, 1) := dk_3 (dk_at dksX5_grant_0 14 rfl rfl)
theorem dX5_grant_15 : decode cX5_grant 15 = .ok (.sipush 10000, 3) := dk_17 39 16 (dk_at dksX5_grant_0 15 rfl rfl)
theorem dX5_grant_18 : decode cX5_grant 18 = .ok (.invokestatic 49, 3) := dk_184 0 49 (dk_at dksX5_grant_0 18 rfl rfl)
theorem dX5_grant_21 : decode cX5_grant 21 = .ok (.ifCond .ne 9, 3) := dk_154 0 9 (dk_at dksX5_grant_0 21 rfl rfl)
theorem dX5_grant_24 : decode cX5_grant 24 = .ok (.aload_n 0, 1) := dk_42 (dk_at dksX5_grant_1 0 rfl rfl)
theorem dX5_grant_25 : decode cX5_grant 25 = .ok (.iconst 2, 1) := dk_5 (dk_at dksX5_grant_1 1 rfl rfl)
theorem dX5_grant_26 : decode cX5_grant 26 = .ok (.invokevirtual 70, 3) := dk_182 0 70 (dk_at dksX5_grant_1 2 rfl rfl)
theorem dX5_grant_29 : decode cX5_grant 29 = .ok (.ireturn, 1) := dk_172 (dk_at dksX5_grant_1 5 rfl rfl)
theorem dX5_grant_30 : decode cX5_grant 30 = .ok (.aload_n 0, 1) := dk_42 (dk_at dksX5_grant_1 6 rfl rfl)
theorem dX5_grant_31 : decode cX5_grant 31 = .ok (.getfield 7, 3) := dk_180 0 7 (dk_at dksX5_grant_1 7 rfl rfl)
theorem dX5_grant_34 : decode cX5_grant 34 = .ok (.sipush 187, 3) := dk_17 0 187 (dk_at dksX5_grant_1 10 rfl rfl)
theorem dX5_grant_37 : decode cX5_grant 37 = .ok (.iconst 3, 1) := dk_6 (dk_at dksX5_grant_1 13 rfl rfl)
theorem dX5_grant_38 : decode cX5_grant 38 = .ok (.iload_n 1, 1) := dk_27 (dk_at dksX5_grant_1 14 rfl rfl)
theorem dX5_grant_39 : decode cX5_grant 39 = .ok (.imul, 1) := dk_104 (dk_at dksX5_grant_1 15 rfl rfl)
theorem dX5_grant_40 : decode cX5_grant 40 = .ok (.iadd, 1) := dk_96 (dk_at dksX5_grant_1 16 rfl rfl)
theorem dX5_grant_41 : decode cX5_grant 41 = .ok (.iaload, 1) := dk_46 (dk_at dksX5_grant_1 17 rfl rfl)
theorem dX5_grant_42 : decode cX5_grant 42 = .ok (.iload_n 2, 1) := dk_28 (dk_at dksX5_grant_1 18 rfl rfl)
theorem dX5_grant_43 : decode cX5_grant 43 = .ok (.iadd, 1) := dk_96 (dk_at dksX5_grant_1 19 rfl rfl)
theorem dX5_grant_44 : decode cX5_grant 44 = .ok (.ldc 123, 2) := dk_18 123 (dk_at dksX5_grant_1 20 rfl rfl)
theorem dX5_grant_46 : decode cX5_grant 46 = .ok (.if_icmp .le 9, 3) := dk_164 0 9 (dk_at dksX5_grant_2 0 rfl rfl)
theorem dX5_grant_49 : decode cX5_grant 49 = .ok (.aload_n 0, 1) := dk_42 (dk_at dksX5_grant_2 3 rfl rfl)
theorem dX5_grant_50 : decode cX5_grant 50 = .ok (.iconst 3, 1) := dk_6 (dk_at dksX5_grant_2 4 rfl rfl)
theorem dX5_grant_51 : decode cX5_grant 51 = .ok (.invokevirtual 70, 3) := dk_182 0 70 (dk_at dksX5_grant_2 5 rfl rfl)
theorem dX5_grant_54 : decode cX5_grant 54 = .ok (.ireturn, 1) := dk_172 (dk_at dksX5_grant_2 8 rfl rfl)
theorem dX5_grant_55 : decode cX5_grant 55 = .ok (.aload_n 0, 1) := dk_42 (dk_at dksX5_grant_2 9 rfl rfl)
theorem dX5_grant_56 : decode cX5_grant 56 = .ok (.invokevirtual 73, 3) := dk_182 0 73 (dk_at dksX5_grant_2 10 rfl rfl)
theorem dX5_grant_59 : decode cX5_grant 59 = .ok (.aload_n 0, 1) := dk_42 (dk_at dksX5_grant_2 13 rfl rfl)
theorem dX5_grant_60 : decode cX5_grant 60 = .ok (.getfield 7, 3) := dk_180 0 7 (dk_at dksX5_grant_2 14 rfl rfl)
theorem dX5_grant_63 : decode cX5_grant 63 = .ok (.sipush 187, 3) := dk_17 0 187 (dk_at dksX5_grant_2 17 rfl rfl)
theorem dX5_grant_66 : decode cX5_grant 66 = .ok (.iconst 3, 1) := dk_6 (dk_at dksX5_grant_2 20 rfl rfl)
theorem dX5_grant_67 : decode cX5_grant 67 = .ok (.iload_n 1, 1) := dk_27 (dk_at dksX5_grant_2 21 rfl rfl)
theorem dX5_grant_68 : decode cX5_grant 68 = .ok (.imul, 1) := dk_104 (dk_at dksX5_grant_2 22 rfl rfl)
theorem dX5_grant_69 : decode cX5_grant 69 = .ok (.iadd, 1) := dk_96 (dk_at dksX5_grant_2 23 rfl rfl)
theorem dX5_grant_70 : decode cX5_grant 70 = .ok (.dup2, 1) := dk_92 (dk_at dksX5_grant_3 0 rfl rfl)
theorem dX5_grant_71 : decode cX5_grant 71 = .ok (.iaload, 1) := dk_46 (dk_at dksX5_grant_3 1 rfl rfl)
theorem dX5_grant_72 : decode cX5_grant 72 = .ok (.iload_n 2, 1) := dk_28 (dk_at dksX5_grant_3 2 rfl rfl)
theorem dX5_grant_73 : decode cX5_grant 73 = .ok (.iadd, 1) := dk_96 (dk_at dksX5_grant_3 3 rfl rfl)
theorem dX5_grant_74 : decode cX5_grant 74 = .ok (.iastore, 1) := dk_79 (dk_at dksX5_grant_3 4 rfl rfl)
theorem dX5_grant_75 : decode cX5_grant 75 = .ok (.aload_n 0, 1) := dk_42 (dk_at dksX5_grant_3 5 rfl rfl)
theorem dX5_grant_76 : decode cX5_grant 76 = .ok (.aload_n 0, 1) := dk_42 (dk_at dksX5_grant_3 6 rfl rfl)
theorem dX5_grant_77 : decode cX5_grant 77 = .ok (.getfield 7, 3) := dk_180 0 7 (dk_at dksX5_grant_3 7 rfl rfl)
theorem dX5_grant_80 : decode cX5_grant 80 = .ok (.sipush 187, 3) := dk_17 0 187 (dk_at dksX5_grant_3 10 rfl rfl)
theorem dX5_grant_83 : decode cX5_grant 83 = .ok (.iconst 3, 1) := dk_6 (dk_at dksX5_grant_3 13 rfl rfl)
theorem dX5_grant_84 : decode cX5_grant 84 = .ok (.iload_n 1, 1) := dk_27 (dk_at dksX5_grant_3 14 rfl rfl)
theorem dX5_grant_85 : decode cX5_grant 85 = .ok (.imul, 1) := dk_104 (dk_at dksX5_grant_3 15 rfl rfl)
theorem dX5_grant_86 : decode cX5_grant 86 = .ok (.iadd, 1) := dk_96 (dk_at dksX5_grant_3 16 rfl rfl)
theorem dX5_grant_87 : decode cX5_grant 87 = .ok (.iaload, 1) := dk_46 (dk_at dksX5_grant_3 17 rfl rfl)
theorem dX5_grant_88 : decode cX5_grant 88 = .ok (.invokevirtual 76, 3) := dk_182 0 76 (dk_at dksX5_grant_3 18 rfl rfl)
theorem dX5_grant_91 : decode cX5_grant 91 = .ok (.ireturn, 1) := dk_172 (dk_at dksX5_grant_3 21 rfl rfl)
abbrev cX5_tick : ByteArray := prog_11_method_39_code
def yX5_tick : MethodName := ⟨RX5, "tick", "(I)I"⟩
def dkwX5_tick_0 : List UInt8 := [42, 182, 0, 73, 42, 42, 27, 182, 0, 124, 182, 0, 104, 172]
abbrev dktX5_tick_0 : List UInt8 := dkwX5_tick_0 ++ []
theorem dksX5_tick_0 : cX5_tick.data.toList.drop 0 = dktX5_tick_0 := by decide +kernel
theorem dX5_tick_0 : decode cX5_tick 0 = .ok (.aload_n 0, 1) := dk_42 (dk_at dksX5_tick_0 0 rfl rfl)
theorem dX5_tick_1 : decode cX5_tick 1 = .ok (.invokevirtual 73, 3) := dk_182 0 73 (dk_at dksX5_tick_0 1 rfl rfl)
theorem dX5_tick_4 : decode cX5_tick 4 = .ok (.aload_n 0, 1) := dk_42 (dk_at dksX5_tick_0 4 rfl rfl)
theorem dX5_tick_5 : decode cX5_tick 5 = .ok (.aload_n 0, 1) := dk_42 (dk_at dksX5_tick_0 5 rfl rfl)
theorem dX5_tick_6 : decode cX5_tick 6 = .ok (.iload_n 1, 1) := dk_27 (dk_at dksX5_tick_0 6 rfl rfl)
theorem dX5_tick_7 : decode cX5_tick 7 = .ok (.invokevirtual 124, 3) := dk_182 0 124 (dk_at dksX5_tick_0 7 rfl rfl)
theorem dX5_tick_10 : decode cX5_tick 10 = .ok (.invokevirtual 104, 3) := dk_182 0 104 (dk_at dksX5_tick_0 10 rfl rfl)
theorem dX5_tick_13 : decode cX5_tick 13 = .ok (.ireturn, 1) := dk_172 (dk_at dksX5_tick_0 13 rfl rfl)
abbrev cX5_ticks : ByteArray := prog_11_method_30_code
def yX5_ticks : MethodName := ⟨RX5, "ticks", "(I)I"⟩
def dkwX5_ticks_1 : List UInt8 := [132, 2, 1, 167, 255, 244, 42, 42, 180, 0, 7, 4, 46, 181, 0, 82, 3, 172]
abbrev dktX5_ticks_1 : List UInt8 := dkwX5_ticks_1 ++ []
def dkwX5_ticks_0 : List UInt8 := [27, 4, 17, 0, 200, 184, 0, 49, 154, 0, 5, 4, 172, 3, 61, 28, 27, 162, 0, 13, 42, 182, 0, 98]
abbrev dktX5_ticks_0 : List UInt8 := dkwX5_ticks_0 ++ dktX5_ticks_1
theorem dksX5_ticks_0 : cX5_ticks.data.toList.drop 0 = dktX5_ticks_0 := by decide +kernel
theorem dksX5_ticks_1 : cX5_ticks.data.toList.drop 24 = dktX5_ticks_1 := dk_seg dksX5_ticks_0 24 rfl rfl
theorem dX5_ticks_0 : decode cX5_ticks 0 = .ok (.iload_n 1, 1) := dk_27 (dk_at dksX5_ticks_0 0 rfl rfl)
theorem dX5_ticks_1 : decode cX5_ticks 1 = .ok (.iconst 1, 1) := dk_4 (dk_at dksX5_ticks_0 1 rfl rfl)
theorem dX5_ticks_2 : decode cX5_ticks 2 = .ok (.sipush 200, 3) := dk_17 0 200 (dk_at dksX5_ticks_0 2 rfl rfl)
theorem dX5_ticks_5 : decode cX5_ticks 5 = .ok (.invokestatic 49, 3) := dk_184 0 49 (dk_at dksX5_ticks_0 5 rfl rfl)
theorem dX5_ticks_8 : decode cX5_ticks 8 = .ok (.ifCond .ne 5, 3) := dk_154 0 5 (dk_at dksX5_ticks_0 8 rfl rfl)
theorem dX5_ticks_11 : decode cX5_ticks 11 = .ok (.iconst 1, 1) := dk_4 (dk_at dksX5_ticks_0 11 rfl rfl)
theorem dX5_ticks_12 : decode cX5_ticks 12 = .ok (.ireturn, 1) := dk_172 (dk_at dksX5_ticks_0 12 rfl rfl)
theorem dX5_ticks_13 : decode cX5_ticks 13 = .ok (.iconst 0, 1) := dk_3 (dk_at dksX5_ticks_0 13 rfl rfl)
theorem dX5_ticks_14 : decode cX5_ticks 14 = .ok (.istore_n 2, 1) := dk_61 (dk_at dksX5_ticks_0 14 rfl rfl)
theorem dX5_ticks_15 : decode cX5_ticks 15 = .ok (.iload_n 2, 1) := dk_28 (dk_at dksX5_ticks_0 15 rfl rfl)
theorem dX5_ticks_16 : decode cX5_ticks 16 = .ok (.iload_n 1, 1) := dk_27 (dk_at dksX5_ticks_0 16 rfl rfl)
theorem dX5_ticks_17 : decode cX5_ticks 17 = .ok (.if_icmp .ge 13, 3) := dk_162 0 13 (dk_at dksX5_ticks_0 17 rfl rfl)
theorem dX5_ticks_20 : decode cX5_ticks 20 = .ok (.aload_n 0, 1) := dk_42 (dk_at dksX5_ticks_0 20 rfl rfl)
theorem dX5_ticks_21 : decode cX5_ticks 21 = .ok (.invokevirtual 98, 3) := dk_182 0 98 (dk_at dksX5_ticks_0 21 rfl rfl)
theorem dX5_ticks_24 : decode cX5_ticks 24 = .ok (.iinc 2 1, 3) := dk_132 2 1 (dk_at dksX5_ticks_1 0 rfl rfl)
theorem dX5_ticks_27 : decode cX5_ticks 27 = .ok (.goto (-12), 3) := dk_167 255 244 (dk_at dksX5_ticks_1 3 rfl rfl)
theorem dX5_ticks_30 : decode cX5_ticks 30 = .ok (.aload_n 0, 1) := dk_42 (dk_at dksX5_ticks_1 6 rfl rfl)
theorem dX5_ticks_31 : decode cX5_ticks 31 = .ok (.aload_n 0, 1) := dk_42 (dk_at dksX5_ticks_1 7 rfl rfl)
theorem dX5_ticks_32 : decode cX5_ticks 32 = .ok (.getfield 7, 3) := dk_180 0 7 (dk_at dksX5_ticks_1 8 rfl rfl)
theorem dX5_ticks_35 : decode cX5_ticks 35 = .ok (.iconst 1, 1) := dk_4 (dk_at dksX5_ticks_1 11 rfl rfl)
theorem dX5_ticks_36 : decode cX5_ticks 36 = .ok (.iaload, 1) := dk_46 (dk_at dksX5_ticks_1 12 rfl rfl)
theorem dX5_ticks_37 : decode cX5_ticks 37 = .ok (.putfield 82, 3) := dk_181 0 82 (dk_at dksX5_ticks_1 13 rfl rfl)
theorem dX5_ticks_40 : decode cX5_ticks 40 = .ok (.iconst 0, 1) := dk_3 (dk_at dksX5_ticks_1 16 rfl rfl)
theorem dX5_ticks_41 : decode cX5_ticks 41 = .ok (.ireturn, 1) := dk_172 (dk_at dksX5_ticks_1 17 rfl rfl)
abbrev cX5_ticksOnce : ByteArray := prog_11_method_41_code
def yX5_ticksOnce : MethodName := ⟨RX5, "ticksOnce", "()V"⟩
def dkwX5_ticksOnce_1 : List UInt8 := [154, 0, 7, 42, 182, 0, 127, 42, 182, 0, 130, 42, 182, 0, 133, 177]
abbrev dktX5_ticksOnce_1 : List UInt8 := dkwX5_ticksOnce_1 ++ []
def dkwX5_ticksOnce_0 : List UInt8 := [42, 180, 0, 7, 4, 92, 46, 4, 96, 79, 42, 180, 0, 7, 4, 46, 42, 180, 0, 7, 6, 46, 112]
abbrev dktX5_ticksOnce_0 : List UInt8 := dkwX5_ticksOnce_0 ++ dktX5_ticksOnce_1
theorem dksX5_ticksOnce_0 : cX5_ticksOnce.data.toList.drop 0 = dktX5_ticksOnce_0 := by decide +kernel
theorem dksX5_ticksOnce_1 : cX5_ticksOnce.data.toList.drop 23 = dktX5_ticksOnce_1 := dk_seg dksX5_ticksOnce_0 23 rfl rfl
theorem dX5_ticksOnce_0 : decode cX5_ticksOnce 0 = .ok (.aload_n 0, 1) := dk_42 (dk_at dksX5_ticksOnce_0 0 rfl rfl)
theorem dX5_ticksOnce_1 : decode cX5_ticksOnce 1 = .ok (.getfield 7, 3) := dk_180 0 7 (dk_at dksX5_ticksOnce_0 1 rfl rfl)
theorem dX5_ticksOnce_4 : decode cX5_ticksOnce 4 = .ok (.iconst 1, 1) := dk_4 (dk_at dksX5_ticksOnce_0 4 rfl rfl)
theorem dX5_ticksOnce_5 : decode cX5_ticksOnce 5 = .ok (.dup2, 1) := dk_92 (dk_at dksX5_ticksOnce_0 5 rfl rfl)
theorem dX5_ticksOnce_6 : decode cX5_ticksOnce 6 = .ok (.iaload, 1) := dk_46 (dk_at dksX5_ticksOnce_0 6 rfl rfl)
theorem dX5_ticksOnce_7 : decode cX5_ticksOnce 7 = .ok (.iconst 1, 1) := dk_4 (dk_at dksX5_ticksOnce_0 7 rfl rfl)
theorem dX5_ticksOnce_8 : decode cX5_ticksOnce 8 = .ok (.iadd, 1) := dk_96 (dk_at dksX5_ticksOnce_0 8 rfl rfl)
theorem dX5_ticksOnce_9 : decode cX5_ticksOnce 9 = .ok (.iastore, 1) := dk_79 (dk_at dksX5_ticksOnce_0 9 rfl rfl)
theorem dX5_ticksOnce_10 : decode cX5_ticksOnce 10 = .ok (.aload_n 0, 1) := dk_42 (dk_at dksX5_ticksOnce_0 10 rfl rfl)
theorem dX5_ticksOnce_11 : decode cX5_ticksOnce 11 = .ok (.getfield 7, 3) := dk_180 0 7 (dk_at dksX5_ticksOnce_0 11 rfl rfl)
theorem dX5_ticksOnce_14 : decode cX5_ticksOnce 14 = .ok (.iconst 1, 1) := dk_4 (dk_at dksX5_ticksOnce_0 14 rfl rfl)
theorem dX5_ticksOnce_15 : decode cX5_ticksOnce 15 = .ok (.iaload, 1) := dk_46 (dk_at dksX5_ticksOnce_0 15 rfl rfl)
theorem dX5_ticksOnce_16 : decode cX5_ticksOnce 16 = .ok (.aload_n 0, 1) := dk_42 (dk_at dksX5_ticksOnce_0 16 rfl rfl)
theorem dX5_ticksOnce_17 : decode cX5_ticksOnce 17 = .ok (.getfield 7, 3) := dk_180 0 7 (dk_at dksX5_ticksOnce_0 17 rfl rfl)
theorem dX5_ticksOnce_20 : decode cX5_ticksOnce 20 = .ok (.iconst 3, 1) := dk_6 (dk_at dksX5_ticksOnce_0 20 rfl rfl)
theorem dX5_ticksOnce_21 : decode cX5_ticksOnce 21 = .ok (.iaload, 1) := dk_46 (dk_at dksX5_ticksOnce_0 21 rfl rfl)
theorem dX5_ticksOnce_22 : decode cX5_ticksOnce 22 = .ok (.irem, 1) := dk_112 (dk_at dksX5_ticksOnce_0 22 rfl rfl)
theorem dX5_ticksOnce_23 : decode cX5_ticksOnce 23 = .ok (.ifCond .ne 7, 3) := dk_154 0 7 (dk_at dksX5_ticksOnce_1 0 rfl rfl)
theorem dX5_ticksOnce_26 : decode cX5_ticksOnce 26 = .ok (.aload_n 0, 1) := dk_42 (dk_at dksX5_ticksOnce_1 3 rfl rfl)
theorem dX5_ticksOnce_27 : decode cX5_ticksOnce 27 = .ok (.invokevirtual 127, 3) := dk_182 0 127 (dk_at dksX5_ticksOnce_1 4 rfl rfl)
theorem dX5_ticksOnce_30 : decode cX5_ticksOnce 30 = .ok (.aload_n 0, 1) := dk_42 (dk_at dksX5_ticksOnce_1 7 rfl rfl)
theorem dX5_ticksOnce_31 : decode cX5_ticksOnce 31 = .ok (.invokevirtual 130, 3) := dk_182 0 130 (dk_at dksX5_ticksOnce_1 8 rfl rfl)
theorem dX5_ticksOnce_34 : decode cX5_ticksOnce 34 = .ok (.aload_n 0, 1) := dk_42 (dk_at dksX5_ticksOnce_1 11 rfl rfl)
theorem dX5_ticksOnce_35 : decode cX5_ticksOnce 35 = .ok (.invokevirtual 133, 3) := dk_182 0 133 (dk_at dksX5_ticksOnce_1 12 rfl rfl)
theorem dX5_ticksOnce_38 : decode cX5_ticksOnce 38 = .ok (.return_, 1) := dk_177 (dk_at dksX5_ticksOnce_1 15 rfl rfl)
abbrev cX5_auctions : ByteArray := prog_11_method_45_code
def yX5_auctions : MethodName := ⟨RX5, "auctions", "()V"⟩
def dkwX5_auctions_3 : List UInt8 := [27, 182, 0, 143, 132, 1, 1, 167, 255, 238, 177]
abbrev dktX5_auctions_3 : List UInt8 := dkwX5_auctions_3 ++ []
def dkwX5_auctions_2 : List UInt8 := [108, 16, 20, 96, 79, 132, 1, 1, 167, 255, 215, 3, 60, 27, 42, 180, 0, 7, 8, 46, 162, 0, 14, 42]
abbrev dktX5_auctions_2 : List UInt8 := dkwX5_auctions_2 ++ dktX5_auctions_3
def dkwX5_auctions_1 : List UInt8 := [17, 0, 187, 6, 27, 104, 96, 16, 9, 42, 180, 0, 7, 17, 0, 187, 6, 27, 104, 96, 46, 104, 16, 10]
abbrev dktX5_auctions_1 : List UInt8 := dkwX5_auctions_1 ++ dktX5_auctions_2
def dkwX5_auctions_0 : List UInt8 := [42, 180, 0, 7, 16, 6, 92, 46, 4, 96, 79, 3, 60, 27, 7, 162, 0, 42, 42, 180, 0, 7]
abbrev dktX5_auctions_0 : List UInt8 := dkwX5_auctions_0 ++ dktX5_auctions_1
theorem dksX5_auctions_0 : cX5_auctions.data.toList.drop 0 = dktX5_auctions_0 := by decide +kernel
theorem dksX5_auctions_1 : cX5_auctions.data.toList.drop 22 = dktX5_auctions_1 := dk_seg dksX5_auctions_0 22 rfl rfl
theorem dksX5_auctions_2 : cX5_auctions.data.toList.drop 46 = dktX5_auctions_2 := dk_seg dksX5_auctions_1 24 rfl rfl
theorem dksX5_auctions_3 : cX5_auctions.data.toList.drop 70 = dktX5_auctions_3 := dk_seg dksX5_auctions_2 24 rfl rfl
theorem dX5_auctions_0 : decode cX5_auctions 0 = .ok (.aload_n 0, 1) := dk_42 (dk_at dksX5_auctions_0 0 rfl rfl)
theorem dX5_auctions_1 : decode cX5_auctions 1 = .ok (.getfield 7, 3) := dk_180 0 7 (dk_at dksX5_auctions_0 1 rfl rfl)
theorem dX5_auctions_4 : decode cX5_auctions 4 = .ok (.bipush 6, 2) := dk_16 6 (dk_at dksX5_auctions_0 4 rfl rfl)
theorem dX5_auctions_6 : decode cX5_auctions 6 = .ok (.dup2, 1) := dk_92 (dk_at dksX5_auctions_0 6 rfl rfl)
theorem dX5_auctions_7 : decode cX5_auctions 7 = .ok (.iaload, 1) := dk_46 (dk_at dksX5_auctions_0 7 rfl rfl)
theorem dX5_auctions_8 : decode cX5_auctions 8 = .ok (.iconst 1, 1) := dk_4 (dk_at dksX5_auctions_0 8 rfl rfl)
theorem dX5_auctions_9 : decode cX5_auctions 9 = .ok (.iadd, 1) := dk_96 (dk_at dksX5_auctions_0 9 rfl rfl)
theorem dX5_auctions_10 : decode cX5_auctions 10 = .ok (.iastore, 1) := dk_79 (dk_at dksX5_auctions_0 10 rfl rfl)
theorem dX5_auctions_11 : decode cX5_auctions 11 = .ok (.iconst 0, 1) := dk_3 (dk_at dksX5_auctions_0 11 rfl rfl)
theorem dX5_auctions_12 : decode cX5_auctions 12 = .ok (.istore_n 1, 1) := dk_60 (dk_at dksX5_auctions_0 12 rfl rfl)
theorem dX5_auctions_13 : decode cX5_auctions 13 = .ok (.iload_n 1, 1) := dk_27 (dk_at dksX5_auctions_0 13 rfl rfl)
theorem dX5_auctions_14 : decode cX5_auctions 14 = .ok (.iconst 4, 1) := dk_7 (dk_at dksX5_auctions_0 14 rfl rfl)
theorem dX5_auctions_15 : decode cX5_auctions 15 = .ok (.if_icmp .ge 42, 3) := dk_162 0 42 (dk_at dksX5_auctions_0 15 rfl rfl)
theorem dX5_auctions_18 : decode cX5_auctions 18 = .ok (.aload_n 0, 1) := dk_42 (dk_at dksX5_auctions_0 18 rfl rfl)
theorem dX5_auctions_19 : decode cX5_auctions 19 = .ok (.getfield 7, 3) := dk_180 0 7 (dk_at dksX5_auctions_0 19 rfl rfl)
theorem dX5_auctions_22 : decode cX5_auctions 22 = .ok (.sipush 187, 3) := dk_17 0 187 (dk_at dksX5_auctions_1 0 rfl rfl)
theorem dX5_auctions_25 : decode cX5_auctions 25 = .ok (.iconst 3, 1) := dk_6 (dk_at dksX5_auctions_1 3 rfl rfl)
theorem dX5_auctions_26 : decode cX5_auctions 26 = .ok (.iload_n 1, 1) := dk_27 (dk_at dksX5_auctions_1 4 rfl rfl)
theorem dX5_auctions_27 : decode cX5_auctions 27 = .ok (.imul, 1) := dk_104 (dk_at dksX5_auctions_1 5 rfl rfl)
theorem dX5_auctions_28 : decode cX5_auctions 28 = .ok (.iadd, 1) := dk_96 (dk_at dksX5_auctions_1 6 rfl rfl)
theorem dX5_auctions_29 : decode cX5_auctions 29 = .ok (.bipush 9, 2) := dk_16 9 (dk_at dksX5_auctions_1 7 rfl rfl)
theorem dX5_auctions_31 : decode cX5_auctions 31 = .ok (.aload_n 0, 1) := dk_42 (dk_at dksX5_auctions_1 9 rfl rfl)
theorem dX5_auctions_32 : decode cX5_auctions 32 = .ok (.getfield 7, 3) := dk_180 0 7 (dk_at dksX5_auctions_1 10 rfl rfl)
theorem dX5_auctions_35 : decode cX5_auctions 35 = .ok (.sipush 187, 3) := dk_17 0 187 (dk_at dksX5_auctions_1 13 rfl rfl)
theorem dX5_auctions_38 : decode cX5_auctions 38 = .ok (.iconst 3, 1) := dk_6 (dk_at dksX5_auctions_1 16 rfl rfl)
theorem dX5_auctions_39 : decode cX5_auctions 39 = .ok (.iload_n 1, 1) := dk_27 (dk_at dksX5_auctions_1 17 rfl rfl)
theorem dX5_auctions_40 : decode cX5_auctions 40 = .ok (.imul, 1) := dk_104 (dk_at dksX5_auctions_1 18 rfl rfl)
theorem dX5_auctions_41 : decode cX5_auctions 41 = .ok (.iadd, 1) := dk_96 (dk_at dksX5_auctions_1 19 rfl rfl)
theorem dX5_auctions_42 : decode cX5_auctions 42 = .ok (.iaload, 1) := dk_46 (dk_at dksX5_auctions_1 20 rfl rfl)
theorem dX5_auctions_43 : decode cX5_auctions 43 = .ok (.imul, 1) := dk_104 (dk_at dksX5_auctions_1 21 rfl rfl)
theorem dX5_auctions_44 : decode cX5_auctions 44 = .ok (.bipush 10, 2) := dk_16 10 (dk_at dksX5_auctions_1 22 rfl rfl)
theorem dX5_auctions_46 : decode cX5_auctions 46 = .ok (.idiv, 1) := dk_108 (dk_at dksX5_auctions_2 0 rfl rfl)
theorem dX5_auctions_47 : decode cX5_auctions 47 = .ok (.bipush 20, 2) := dk_16 20 (dk_at dksX5_auctions_2 1 rfl rfl)
theorem dX5_auctions_49 : decode cX5_auctions 49 = .ok (.iadd, 1) := dk_96 (dk_at dksX5_auctions_2 3 rfl rfl)
theorem dX5_auctions_50 : decode cX5_auctions 50 = .ok (.iastore, 1) := dk_79 (dk_at dksX5_auctions_2 4 rfl rfl)
theorem dX5_auctions_51 : decode cX5_auctions 51 = .ok (.iinc 1 1, 3) := dk_132 1 1 (dk_at dksX5_auctions_2 5 rfl rfl)
theorem dX5_auctions_54 : decode cX5_auctions 54 = .ok (.goto (-41), 3) := dk_167 255 215 (dk_at dksX5_auctions_2 8 rfl rfl)
theorem dX5_auctions_57 : decode cX5_auctions 57 = .ok (.iconst 0, 1) := dk_3 (dk_at dksX5_auctions_2 11 rfl rfl)
theorem dX5_auctions_58 : decode cX5_auctions 58 = .ok (.istore_n 1, 1) := dk_60 (dk_at dksX5_auctions_2 12 rfl rfl)
theorem dX5_auctions_59 : decode cX5_auctions 59 = .ok (.iload_n 1, 1) := dk_27 (dk_at dksX5_auctions_2 13 rfl rfl)
theorem dX5_auctions_60 : decode cX5_auctions 60 = .ok (.aload_n 0, 1) := dk_42 (dk_at dksX5_auctions_2 14 rfl rfl)
theorem dX5_auctions_61 : decode cX5_auctions 61 = .ok (.getfield 7, 3) := dk_180 0 7 (dk_at dksX5_auctions_2 15 rfl rfl)
theorem dX5_auctions_64 : decode cX5_auctions 64 = .ok (.iconst 5, 1) := dk_8 (dk_at dksX5_auctions_2 18 rfl rfl)
theorem dX5_auctions_65 : decode cX5_auctions 65 = .ok (.iaload, 1) := dk_46 (dk_at dksX5_auctions_2 19 rfl rfl)
theorem dX5_auctions_66 : decode cX5_auctions 66 = .ok (.if_icmp .ge 14, 3) := dk_162 0 14 (dk_at dksX5_auctions_2 20 rfl rfl)
theorem dX5_auctions_69 : decode cX5_auctions 69 = .ok (.aload_n 0, 1) := dk_42 (dk_at dksX5_auctions_2 23 rfl rfl)
theorem dX5_auctions_70 : decode cX5_auctions 70 = .ok (.iload_n 1, 1) := dk_27 (dk_at dksX5_auctions_3 0 rfl rfl)
theorem dX5_auctions_71 : decode cX5_auctions 71 = .ok (.invokevirtual 143, 3) := dk_182 0 143 (dk_at dksX5_auctions_3 1 rfl rfl)
theorem dX5_auctions_74 : decode cX5_auctions 74 = .ok (.iinc 1 1, 3) := dk_132 1 1 (dk_at dksX5_auctions_3 4 rfl rfl)
theorem dX5_auctions_77 : decode cX5_auctions 77 = .ok (.goto (-18), 3) := dk_167 255 238 (dk_at dksX5_auctions_3 7 rfl rfl)
theorem dX5_auctions_80 : decode cX5_auctions 80 = .ok (.return_, 1) := dk_177 (dk_at dksX5_auctions_3 10 rfl rfl)
abbrev cX5_sells : ByteArray := prog_11_method_44_code
def yX5_sells : MethodName := ⟨RX5, "sells", "(I)V"⟩
def dkwX5_sells_10 : List UInt8 := [167, 0, 5, 21, 6, 182, 0, 85, 177]
abbrev dktX5_sells_10 : List UInt8 := dkwX5_sells_10 ++ []
def dkwX5_sells_9 : List UInt8 := [167, 0, 9, 42, 27, 6, 182, 0, 62, 182, 0, 85, 42, 27, 16, 7, 21, 7, 153, 0, 7, 3]
abbrev dktX5_sells_9 : List UInt8 := dkwX5_sells_9 ++ dktX5_sells_10
def dkwX5_sells_8 : List UInt8 := [167, 0, 4, 3, 54, 7, 42, 27, 6, 21, 7, 153, 0, 15, 42, 27, 5, 182, 0, 62, 21, 4, 96]
abbrev dktX5_sells_8 : List UInt8 := dkwX5_sells_8 ++ dktX5_sells_9
def dkwX5_sells_7 : List UInt8 := [7, 46, 163, 0, 21, 21, 5, 116, 42, 180, 0, 7, 7, 46, 163, 0, 9, 21, 6, 6, 160, 0, 7, 4]
abbrev dktX5_sells_7 : List UInt8 := dkwX5_sells_7 ++ dktX5_sells_8
def dkwX5_sells_6 : List UInt8 := [154, 0, 7, 3, 167, 0, 12, 42, 27, 16, 7, 182, 0, 62, 4, 96, 54, 6, 21, 5, 42, 180, 0, 7]
abbrev dktX5_sells_6 : List UInt8 := dkwX5_sells_6 ++ dktX5_sells_7
def dkwX5_sells_5 : List UInt8 := [21, 4, 96, 79, 42, 27, 5, 182, 0, 62, 21, 4, 96, 42, 27, 6, 182, 0, 62, 100, 54, 5, 21, 5]
abbrev dktX5_sells_5 : List UInt8 := dkwX5_sells_5 ++ dktX5_sells_6
def dkwX5_sells_4 : List UInt8 := [28, 104, 96, 92, 46, 21, 4, 100, 79, 42, 180, 0, 7, 17, 0, 187, 6, 28, 104, 96, 4, 96, 92, 46]
abbrev dktX5_sells_4 : List UInt8 := dkwX5_sells_4 ++ dktX5_sells_5
def dkwX5_sells_3 : List UInt8 := [182, 0, 85, 42, 27, 16, 6, 21, 4, 182, 0, 85, 28, 155, 0, 39, 42, 180, 0, 7, 17, 0, 187, 6]
abbrev dktX5_sells_3 : List UInt8 := dkwX5_sells_3 ++ dktX5_sells_4
def dkwX5_sells_2 : List UInt8 := [2, 160, 0, 7, 4, 167, 0, 12, 42, 27, 16, 14, 29, 96, 182, 0, 62, 54, 4, 42, 27, 8, 28]
abbrev dktX5_sells_2 : List UInt8 := dkwX5_sells_2 ++ dktX5_sells_3
def dkwX5_sells_1 : List UInt8 := [160, 0, 7, 2, 167, 0, 9, 42, 27, 28, 182, 0, 140, 62, 28, 2, 160, 0, 7, 3, 167, 0, 21, 29]
abbrev dktX5_sells_1 : List UInt8 := dkwX5_sells_1 ++ dktX5_sells_2
def dkwX5_sells_0 : List UInt8 := [42, 27, 7, 182, 0, 62, 4, 160, 0, 12, 42, 27, 2, 182, 0, 140, 167, 0, 4, 2, 61, 28, 2]
abbrev dktX5_sells_0 : List UInt8 := dkwX5_sells_0 ++ dktX5_sells_1
theorem dksX5_sells_0 : cX5_sells.data.toList.drop 0 = dktX5_sells_0 := by decide +kernel
theorem dksX5_sells_1 : cX5_sells.data.toList.drop 23 = dktX5_sells_1 := dk_seg dksX5_sells_0 23 rfl rfl
theorem dksX5_sells_2 : cX5_sells.data.toList.drop 47 = dktX5_sells_2 := dk_seg dksX5_sells_1 24 rfl rfl
theorem dksX5_sells_3 : cX5_sells.data.toList.drop 70 = dktX5_sells_3 := dk_seg dksX5_sells_2 23 rfl rfl
theorem dksX5_sells_4 : cX5_sells.data.toList.drop 94 = dktX5_sells_4 := dk_seg dksX5_sells_3 24 rfl rfl
theorem dksX5_sells_5 : cX5_sells.data.toList.drop 118 = dktX5_sells_5 := dk_seg dksX5_sells_4 24 rfl rfl
theorem dksX5_sells_6 : cX5_sells.data.toList.drop 142 = dktX5_sells_6 := dk_seg dksX5_sells_5 24 rfl rfl
theorem dksX5_sells_7 : cX5_sells.data.toList.drop 166 = dktX5_sells_7 := dk_seg dksX5_sells_6 24 rfl rfl
theorem dksX5_sells_8 : cX5_sells.data.toList.drop 190 = dktX5_sells_8 := dk_seg dksX5_sells_7 24 rfl rfl
theorem dksX5_sells_9 : cX5_sells.data.toList.drop 213 = dktX5_sells_9 := dk_seg dksX5_sells_8 23 rfl rfl
theorem dksX5_sells_10 : cX5_sells.data.toList.drop 235 = dktX5_sells_10 := dk_seg dksX5_sells_9 22 rfl rfl
theorem dX5_sells_0 : decode cX5_sells 0 = .ok (.aload_n 0, 1) := dk_42 (dk_at dksX5_sells_0 0 rfl rfl)
theorem dX5_sells_1 : decode cX5_sells 1 = .ok (.iload_n 1, 1) := dk_27 (dk_at dksX5_sells_0 1 rfl rfl)
theorem dX5_sells_2 : decode cX5_sells 2 = .ok (.iconst 4, 1) := dk_7 (dk_at dksX5_sells_0 2 rfl rfl)
theorem dX5_sells_3 : decode cX5_sells 3 = .ok (.invokevirtual 62, 3) := dk_182 0 62 (dk_at dksX5_sells_0 3 rfl rfl)
theorem dX5_sells_6 : decode cX5_sells 6 = .ok (.iconst 1, 1) := dk_4 (dk_at dksX5_sells_0 6 rfl rfl)
theorem dX5_sells_7 : decode cX5_sells 7 = .ok (.if_icmp .ne 12, 3) := dk_160 0 12 (dk_at dksX5_sells_0 7 rfl rfl)
theorem dX5_sells_10 : decode cX5_sells 10 = .ok (.aload_n 0, 1) := dk_42 (dk_at dksX5_sells_0 10 rfl rfl)
theorem dX5_sells_11 : decode cX5_sells 11 = .ok (.iload_n 1, 1) := dk_27 (dk_at dksX5_sells_0 11 rfl rfl)
theorem dX5_sells_12 : decode cX5_sells 12 = .ok (.iconst (-1), 1) := dk_2 (dk_at dksX5_sells_0 12 rfl rfl)
theorem dX5_sells_13 : decode cX5_sells 13 = .ok (.invokevirtual 140, 3) := dk_182 0 140 (dk_at dksX5_sells_0 13 rfl rfl)
theorem dX5_sells_16 : decode cX5_sells 16 = .ok (.goto 4, 3) := dk_167 0 4 (dk_at dksX5_sells_0 16 rfl rfl)
theorem dX5_sells_19 : decode cX5_sells 19 = .ok (.iconst (-1), 1) := dk_2 (dk_at dksX5_sells_0 19 rfl rfl)
theorem dX5_sells_20 : decode cX5_sells 20 = .ok (.istore_n 2, 1) := dk_61 (dk_at dksX5_sells_0 20 rfl rfl)
theorem dX5_sells_21 : decode cX5_sells 21 = .ok (.iload_n 2, 1) := dk_28 (dk_at dksX5_sells_0 21 rfl rfl)
theorem dX5_sells_22 : decode cX5_sells 22 = .ok (.iconst (-1), 1) := dk_2 (dk_at dksX5_sells_0 22 rfl rfl)
theorem dX5_sells_23 : decode cX5_sells 23 = .ok (.if_icmp .ne 7, 3) := dk_160 0 7 (dk_at dksX5_sells_1 0 rfl rfl)
theorem dX5_sells_26 : decode cX5_sells 26 = .ok (.iconst (-1), 1) := dk_2 (dk_at dksX5_sells_1 3 rfl rfl)
theorem dX5_sells_27 : decode cX5_sells 27 = .ok (.goto 9, 3) := dk_167 0 9 (dk_at dksX5_sells_1 4 rfl rfl)
theorem dX5_sells_30 : decode cX5_sells 30 = .ok (.aload_n 0, 1) := dk_42 (dk_at dksX5_sells_1 7 rfl rfl)
theorem dX5_sells_31 : decode cX5_sells 31 = .ok (.iload_n 1, 1) := dk_27 (dk_at dksX5_sells_1 8 rfl rfl)
theorem dX5_sells_32 : decode cX5_sells 32 = .ok (.iload_n 2, 1) := dk_28 (dk_at dksX5_sells_1 9 rfl rfl)
theorem dX5_sells_33 : decode cX5_sells 33 = .ok (.invokevirtual 140, 3) := dk_182 0 140 (dk_at dksX5_sells_1 10 rfl rfl)
theorem dX5_sells_36 : decode cX5_sells 36 = .ok (.istore_n 3, 1) := dk_62 (dk_at dksX5_sells_1 13 rfl rfl)
theorem dX5_sells_37 : decode cX5_sells 37 = .ok (.iload_n 2, 1) := dk_28 (dk_at dksX5_sells_1 14 rfl rfl)
theorem dX5_sells_38 : decode cX5_sells 38 = .ok (.iconst (-1), 1) := dk_2 (dk_at dksX5_sells_1 15 rfl rfl)
theorem dX5_sells_39 : decode cX5_sells 39 = .ok (.if_icmp .ne 7, 3) := dk_160 0 7 (dk_at dksX5_sells_1 16 rfl rfl)
theorem dX5_sells_42 : decode cX5_sells 42 = .ok (.iconst 0, 1) := dk_3 (dk_at dksX5_sells_1 19 rfl rfl)
theorem dX5_sells_43 : decode cX5_sells 43 = .ok (.goto 21, 3) := dk_167 0 21 (dk_at dksX5_sells_1 20 rfl rfl)
theorem dX5_sells_46 : decode cX5_sells 46 = .ok (.iload_n 3, 1) := dk_29 (dk_at dksX5_sells_1 23 rfl rfl)
theorem dX5_sells_47 : decode cX5_sells 47 = .ok (.iconst (-1), 1) := dk_2 (dk_at dksX5_sells_2 0 rfl rfl)
theorem dX5_sells_48 : decode cX5_sells 48 = .ok (.if_icmp .ne 7, 3) := dk_160 0 7 (dk_at dksX5_sells_2 1 rfl rfl)
theorem dX5_sells_51 : decode cX5_sells 51 = .ok (.iconst 1, 1) := dk_4 (dk_at dksX5_sells_2 4 rfl rfl)
theorem dX5_sells_52 : decode cX5_sells 52 = .ok (.goto 12, 3) := dk_167 0 12 (dk_at dksX5_sells_2 5 rfl rfl)
theorem dX5_sells_55 : decode cX5_sells 55 = .ok (.aload_n 0, 1) := dk_42 (dk_at dksX5_sells_2 8 rfl rfl)
theorem dX5_sells_56 : decode cX5_sells 56 = .ok (.iload_n 1, 1) := dk_27 (dk_at dksX5_sells_2 9 rfl rfl)
theorem dX5_sells_57 : decode cX5_sells 57 = .ok (.bipush 14, 2) := dk_16 14 (dk_at dksX5_sells_2 10 rfl rfl)
theorem dX5_sells_59 : decode cX5_sells 59 = .ok (.iload_n 3, 1) := dk_29 (dk_at dksX5_sells_2 12 rfl rfl)
theorem dX5_sells_60 : decode cX5_sells 60 = .ok (.iadd, 1) := dk_96 (dk_at dksX5_sells_2 13 rfl rfl)
theorem dX5_sells_61 : decode cX5_sells 61 = .ok (.invokevirtual 62, 3) := dk_182 0 62 (dk_at dksX5_sells_2 14 rfl rfl)
theorem dX5_sells_64 : decode cX5_sells 64 = .ok (.istore 4, 2) := dk_54 4 (dk_at dksX5_sells_2 17 rfl rfl)
theorem dX5_sells_66 : decode cX5_sells 66 = .ok (.aload_n 0, 1) := dk_42 (dk_at dksX5_sells_2 19 rfl rfl)
theorem dX5_sells_67 : decode cX5_sells 67 = .ok (.iload_n 1, 1) := dk_27 (dk_at dksX5_sells_2 20 rfl rfl)
theorem dX5_sells_68 : decode cX5_sells 68 = .ok (.iconst 5, 1) := dk_8 (dk_at dksX5_sells_2 21 rfl rfl)
theorem dX5_sells_69 : decode cX5_sells 69 = .ok (.iload_n 2, 1) := dk_28 (dk_at dksX5_sells_2 22 rfl rfl)
theorem dX5_sells_70 : decode cX5_sells 70 = .ok (.invokevirtual 85, 3) := dk_182 0 85 (dk_at dksX5_sells_3 0 rfl rfl)
theorem dX5_sells_73 : decode cX5_sells 73 = .ok (.aload_n 0, 1) := dk_42 (dk_at dksX5_sells_3 3 rfl rfl)
theorem dX5_sells_74 : decode cX5_sells 74 = .ok (.iload_n 1, 1) := dk_27 (dk_at dksX5_sells_3 4 rfl rfl)
theorem dX5_sells_75 : decode cX5_sells 75 = .ok (.bipush 6, 2) := dk_16 6 (dk_at dksX5_sells_3 5 rfl rfl)
theorem dX5_sells_77 : decode cX5_sells 77 = .ok (.iload 4, 2) := dk_21 4 (dk_at dksX5_sells_3 7 rfl rfl)
theorem dX5_sells_79 : decode cX5_sells 79 = .ok (.invokevirtual 85, 3) := dk_182 0 85 (dk_at dksX5_sells_3 9 rfl rfl)
theorem dX5_sells_82 : decode cX5_sells 82 = .ok (.iload_n 2, 1) := dk_28 (dk_at dksX5_sells_3 12 rfl rfl)
theorem dX5_sells_83 : decode cX5_sells 83 = .ok (.ifCond .lt 39, 3) := dk_155 0 39 (dk_at dksX5_sells_3 13 rfl rfl)
theorem dX5_sells_86 : decode cX5_sells 86 = .ok (.aload_n 0, 1) := dk_42 (dk_at dksX5_sells_3 16 rfl rfl)
theorem dX5_sells_87 : decode cX5_sells 87 = .ok (.getfield 7, 3) := dk_180 0 7 (dk_at dksX5_sells_3 17 rfl rfl)
theorem dX5_sells_90 : decode cX5_sells 90 = .ok (.sipush 187, 3) := dk_17 0 187 (dk_at dksX5_sells_3 20 rfl rfl)
theorem dX5_sells_93 : decode cX5_sells 93 = .ok (.iconst 3, 1) := dk_6 (dk_at dksX5_sells_3 23 rfl rfl)
theorem dX5_sells_94 : decode cX5_sells 94 = .ok (.iload_n 2, 1) := dk_28 (dk_at dksX5_sells_4 0 rfl rfl)
theorem dX5_sells_95 : decode cX5_sells 95 = .ok (.imul, 1) := dk_104 (dk_at dksX5_sells_4 1 rfl rfl)
theorem dX5_sells_96 : decode cX5_sells 96 = .ok (.iadd, 1) := dk_96 (dk_at dksX5_sells_4 2 rfl rfl)
theorem dX5_sells_97 : decode cX5_sells 97 = .ok (.dup2, 1) := dk_92 (dk_at dksX5_sells_4 3 rfl rfl)
theorem dX5_sells_98 : decode cX5_sells 98 = .ok (.iaload, 1) := dk_46 (dk_at dksX5_sells_4 4 rfl rfl)
theorem dX5_sells_99 : decode cX5_sells 99 = .ok (.iload 4, 2) := dk_21 4 (dk_at dksX5_sells_4 5 rfl rfl)
theorem dX5_sells_101 : decode cX5_sells 101 = .ok (.isub, 1) := dk_100 (dk_at dksX5_sells_4 7 rfl rfl)
theorem dX5_sells_102 : decode cX5_sells 102 = .ok (.iastore, 1) := dk_79 (dk_at dksX5_sells_4 8 rfl rfl)
theorem dX5_sells_103 : decode cX5_sells 103 = .ok (.aload_n 0, 1) := dk_42 (dk_at dksX5_sells_4 9 rfl rfl)
theorem dX5_sells_104 : decode cX5_sells 104 = .ok (.getfield 7, 3) := dk_180 0 7 (dk_at dksX5_sells_4 10 rfl rfl)
theorem dX5_sells_107 : decode cX5_sells 107 = .ok (.sipush 187, 3) := dk_17 0 187 (dk_at dksX5_sells_4 13 rfl rfl)
theorem dX5_sells_110 : decode cX5_sells 110 = .ok (.iconst 3, 1) := dk_6 (dk_at dksX5_sells_4 16 rfl rfl)
theorem dX5_sells_111 : decode cX5_sells 111 = .ok (.iload_n 2, 1) := dk_28 (dk_at dksX5_sells_4 17 rfl rfl)
theorem dX5_sells_112 : decode cX5_sells 112 = .ok (.imul, 1) := dk_104 (dk_at dksX5_sells_4 18 rfl rfl)
theorem dX5_sells_113 : decode cX5_sells 113 = .ok (.iadd, 1) := dk_96 (dk_at dksX5_sells_4 19 rfl rfl)
theorem dX5_sells_114 : decode cX5_sells 114 = .ok (.iconst 1, 1) := dk_4 (dk_at dksX5_sells_4 20 rfl rfl)
theorem dX5_sells_115 : decode cX5_sells 115 = .ok (.iadd, 1) := dk_96 (dk_at dksX5_sells_4 21 rfl rfl)
theorem dX5_sells_116 : decode cX5_sells 116 = .ok (.dup2, 1) := dk_92 (dk_at dksX5_sells_4 22 rfl rfl)
theorem dX5_sells_117 : decode cX5_sells 117 = .ok (.iaload, 1) := dk_46 (dk_at dksX5_sells_4 23 rfl rfl)
theorem dX5_sells_118 : decode cX5_sells 118 = .ok (.iload 4, 2) := dk_21 4 (dk_at dksX5_sells_5 0 rfl rfl)
theorem dX5_sells_120 : decode cX5_sells 120 = .ok (.iadd, 1) := dk_96 (dk_at dksX5_sells_5 2 rfl rfl)
theorem dX5_sells_121 : decode cX5_sells 121 = .ok (.iastore, 1) := dk_79 (dk_at dksX5_sells_5 3 rfl rfl)
theorem dX5_sells_122 : decode cX5_sells 122 = .ok (.aload_n 0, 1) := dk_42 (dk_at dksX5_sells_5 4 rfl rfl)
theorem dX5_sells_123 : decode cX5_sells 123 = .ok (.iload_n 1, 1) := dk_27 (dk_at dksX5_sells_5 5 rfl rfl)
theorem dX5_sells_124 : decode cX5_sells 124 = .ok (.iconst 2, 1) := dk_5 (dk_at dksX5_sells_5 6 rfl rfl)
theorem dX5_sells_125 : decode cX5_sells 125 = .ok (.invokevirtual 62, 3) := dk_182 0 62 (dk_at dksX5_sells_5 7 rfl rfl)
theorem dX5_sells_128 : decode cX5_sells 128 = .ok (.iload 4, 2) := dk_21 4 (dk_at dksX5_sells_5 10 rfl rfl)
theorem dX5_sells_130 : decode cX5_sells 130 = .ok (.iadd, 1) := dk_96 (dk_at dksX5_sells_5 12 rfl rfl)
theorem dX5_sells_131 : decode cX5_sells 131 = .ok (.aload_n 0, 1) := dk_42 (dk_at dksX5_sells_5 13 rfl rfl)
theorem dX5_sells_132 : decode cX5_sells 132 = .ok (.iload_n 1, 1) := dk_27 (dk_at dksX5_sells_5 14 rfl rfl)
theorem dX5_sells_133 : decode cX5_sells 133 = .ok (.iconst 3, 1) := dk_6 (dk_at dksX5_sells_5 15 rfl rfl)
theorem dX5_sells_134 : decode cX5_sells 134 = .ok (.invokevirtual 62, 3) := dk_182 0 62 (dk_at dksX5_sells_5 16 rfl rfl)
theorem dX5_sells_137 : decode cX5_sells 137 = .ok (.isub, 1) := dk_100 (dk_at dksX5_sells_5 19 rfl rfl)
theorem dX5_sells_138 : decode cX5_sells 138 = .ok (.istore 5, 2) := dk_54 5 (dk_at dksX5_sells_5 20 rfl rfl)
theorem dX5_sells_140 : decode cX5_sells 140 = .ok (.iload 5, 2) := dk_21 5 (dk_at dksX5_sells_5 22 rfl rfl)
theorem dX5_sells_142 : decode cX5_sells 142 = .ok (.ifCond .ne 7, 3) := dk_154 0 7 (dk_at dksX5_sells_6 0 rfl rfl)
theorem dX5_sells_145 : decode cX5_sells 145 = .ok (.iconst 0, 1) := dk_3 (dk_at dksX5_sells_6 3 rfl rfl)
theorem dX5_sells_146 : decode cX5_sells 146 = .ok (.goto 12, 3) := dk_167 0 12 (dk_at dksX5_sells_6 4 rfl rfl)
theorem dX5_sells_149 : decode cX5_sells 149 = .ok (.aload_n 0, 1) := dk_42 (dk_at dksX5_sells_6 7 rfl rfl)
theorem dX5_sells_150 : decode cX5_sells 150 = .ok (.iload_n 1, 1) := dk_27 (dk_at dksX5_sells_6 8 rfl rfl)
theorem dX5_sells_151 : decode cX5_sells 151 = .ok (.bipush 7, 2) := dk_16 7 (dk_at dksX5_sells_6 9 rfl rfl)
theorem dX5_sells_153 : decode cX5_sells 153 = .ok (.invokevirtual 62, 3) := dk_182 0 62 (dk_at dksX5_sells_6 11 rfl rfl)
theorem dX5_sells_156 : decode cX5_sells 156 = .ok (.iconst 1, 1) := dk_4 (dk_at dksX5_sells_6 14 rfl rfl)
theorem dX5_sells_157 : decode cX5_sells 157 = .ok (.iadd, 1) := dk_96 (dk_at dksX5_sells_6 15 rfl rfl)
theorem dX5_sells_158 : decode cX5_sells 158 = .ok (.istore 6, 2) := dk_54 6 (dk_at dksX5_sells_6 16 rfl rfl)
theorem dX5_sells_160 : decode cX5_sells 160 = .ok (.iload 5, 2) := dk_21 5 (dk_at dksX5_sells_6 18 rfl rfl)
theorem dX5_sells_162 : decode cX5_sells 162 = .ok (.aload_n 0, 1) := dk_42 (dk_at dksX5_sells_6 20 rfl rfl)
theorem dX5_sells_163 : decode cX5_sells 163 = .ok (.getfield 7, 3) := dk_180 0 7 (dk_at dksX5_sells_6 21 rfl rfl)
theorem dX5_sells_166 : decode cX5_sells 166 = .ok (.iconst 4, 1) := dk_7 (dk_at dksX5_sells_7 0 rfl rfl)
theorem dX5_sells_167 : decode cX5_sells 167 = .ok (.iaload, 1) := dk_46 (dk_at dksX5_sells_7 1 rfl rfl)
theorem dX5_sells_168 : decode cX5_sells 168 = .ok (.if_icmp .gt 21, 3) := dk_163 0 21 (dk_at dksX5_sells_7 2 rfl rfl)
theorem dX5_sells_171 : decode cX5_sells 171 = .ok (.iload 5, 2) := dk_21 5 (dk_at dksX5_sells_7 5 rfl rfl)
theorem dX5_sells_173 : decode cX5_sells 173 = .ok (.ineg, 1) := dk_116 (dk_at dksX5_sells_7 7 rfl rfl)
theorem dX5_sells_174 : decode cX5_sells 174 = .ok (.aload_n 0, 1) := dk_42 (dk_at dksX5_sells_7 8 rfl rfl)
theorem dX5_sells_175 : decode cX5_sells 175 = .ok (.getfield 7, 3) := dk_180 0 7 (dk_at dksX5_sells_7 9 rfl rfl)
theorem dX5_sells_178 : decode cX5_sells 178 = .ok (.iconst 4, 1) := dk_7 (dk_at dksX5_sells_7 12 rfl rfl)
theorem dX5_sells_179 : decode cX5_sells 179 = .ok (.iaload, 1) := dk_46 (dk_at dksX5_sells_7 13 rfl rfl)
theorem dX5_sells_180 : decode cX5_sells 180 = .ok (.if_icmp .gt 9, 3) := dk_163 0 9 (dk_at dksX5_sells_7 14 rfl rfl)
theorem dX5_sells_183 : decode cX5_sells 183 = .ok (.iload 6, 2) := dk_21 6 (dk_at dksX5_sells_7 17 rfl rfl)
theorem dX5_sells_185 : decode cX5_sells 185 = .ok (.iconst 3, 1) := dk_6 (dk_at dksX5_sells_7 19 rfl rfl)
theorem dX5_sells_186 : decode cX5_sells 186 = .ok (.if_icmp .ne 7, 3) := dk_160 0 7 (dk_at dksX5_sells_7 20 rfl rfl)
theorem dX5_sells_189 : decode cX5_sells 189 = .ok (.iconst 1, 1) := dk_4 (dk_at dksX5_sells_7 23 rfl rfl)
theorem dX5_sells_190 : decode cX5_sells 190 = .ok (.goto 4, 3) := dk_167 0 4 (dk_at dksX5_sells_8 0 rfl rfl)
theorem dX5_sells_193 : decode cX5_sells 193 = .ok (.iconst 0, 1) := dk_3 (dk_at dksX5_sells_8 3 rfl rfl)
theorem dX5_sells_194 : decode cX5_sells 194 = .ok (.istore 7, 2) := dk_54 7 (dk_at dksX5_sells_8 4 rfl rfl)
theorem dX5_sells_196 : decode cX5_sells 196 = .ok (.aload_n 0, 1) := dk_42 (dk_at dksX5_sells_8 6 rfl rfl)
theorem dX5_sells_197 : decode cX5_sells 197 = .ok (.iload_n 1, 1) := dk_27 (dk_at dksX5_sells_8 7 rfl rfl)
theorem dX5_sells_198 : decode cX5_sells 198 = .ok (.iconst 3, 1) := dk_6 (dk_at dksX5_sells_8 8 rfl rfl)
theorem dX5_sells_199 : decode cX5_sells 199 = .ok (.iload 7, 2) := dk_21 7 (dk_at dksX5_sells_8 9 rfl rfl)
theorem dX5_sells_201 : decode cX5_sells 201 = .ok (.ifCond .eq 15, 3) := dk_153 0 15 (dk_at dksX5_sells_8 11 rfl rfl)
theorem dX5_sells_204 : decode cX5_sells 204 = .ok (.aload_n 0, 1) := dk_42 (dk_at dksX5_sells_8 14 rfl rfl)
theorem dX5_sells_205 : decode cX5_sells 205 = .ok (.iload_n 1, 1) := dk_27 (dk_at dksX5_sells_8 15 rfl rfl)
theorem dX5_sells_206 : decode cX5_sells 206 = .ok (.iconst 2, 1) := dk_5 (dk_at dksX5_sells_8 16 rfl rfl)
theorem dX5_sells_207 : decode cX5_sells 207 = .ok (.invokevirtual 62, 3) := dk_182 0 62 (dk_at dksX5_sells_8 17 rfl rfl)
theorem dX5_sells_210 : decode cX5_sells 210 = .ok (.iload 4, 2) := dk_21 4 (dk_at dksX5_sells_8 20 rfl rfl)
theorem dX5_sells_212 : decode cX5_sells 212 = .ok (.iadd, 1) := dk_96 (dk_at dksX5_sells_8 22 rfl rfl)
theorem dX5_sells_213 : decode cX5_sells 213 = .ok (.goto 9, 3) := dk_167 0 9 (dk_at dksX5_sells_9 0 rfl rfl)
theorem dX5_sells_216 : decode cX5_sells 216 = .ok (.aload_n 0, 1) := dk_42 (dk_at dksX5_sells_9 3 rfl rfl)
theorem dX5_sells_217 : decode cX5_sells 217 = .ok (.iload_n 1, 1) := dk_27 (dk_at dksX5_sells_9 4 rfl rfl)
theorem dX5_sells_218 : decode cX5_sells 218 = .ok (.iconst 3, 1) := dk_6 (dk_at dksX5_sells_9 5 rfl rfl)
theorem dX5_sells_219 : decode cX5_sells 219 = .ok (.invokevirtual 62, 3) := dk_182 0 62 (dk_at dksX5_sells_9 6 rfl rfl)
theorem dX5_sells_222 : decode cX5_sells 222 = .ok (.invokevirtual 85, 3) := dk_182 0 85 (dk_at dksX5_sells_9 9 rfl rfl)
theorem dX5_sells_225 : decode cX5_sells 225 = .ok (.aload_n 0, 1) := dk_42 (dk_at dksX5_sells_9 12 rfl rfl)
theorem dX5_sells_226 : decode cX5_sells 226 = .ok (.iload_n 1, 1) := dk_27 (dk_at dksX5_sells_9 13 rfl rfl)
theorem dX5_sells_227 : decode cX5_sells 227 = .ok (.bipush 7, 2) := dk_16 7 (dk_at dksX5_sells_9 14 rfl rfl)
theorem dX5_sells_229 : decode cX5_sells 229 = .ok (.iload 7, 2) := dk_21 7 (dk_at dksX5_sells_9 16 rfl rfl)
theorem dX5_sells_231 : decode cX5_sells 231 = .ok (.ifCond .eq 7, 3) := dk_153 0 7 (dk_at dksX5_sells_9 18 rfl rfl)
theorem dX5_sells_234 : decode cX5_sells 234 = .ok (.iconst 0, 1) := dk_3 (dk_at dksX5_sells_9 21 rfl rfl)
theorem dX5_sells_235 : decode cX5_sells 235 = .ok (.goto 5, 3) := dk_167 0 5 (dk_at dksX5_sells_10 0 rfl rfl)
theorem dX5_sells_238 : decode cX5_sells 238 = .ok (.iload 6, 2) := dk_21 6 (dk_at dksX5_sells_10 3 rfl rfl)
theorem dX5_sells_240 : decode cX5_sells 240 = .ok (.invokevirtual 85, 3) := dk_182 0 85 (dk_at dksX5_sells_10 5 rfl rfl)
theorem dX5_sells_243 : decode cX5_sells 243 = .ok (.return_, 1) := dk_177 (dk_at dksX5_sells_10 8 rfl rfl)
abbrev cX5_greatest : ByteArray := prog_11_method_43_code
def yX5_greatest : MethodName := ⟨RX5, "greatest", "(II)I"⟩
def dkwX5_greatest_2 : List UInt8 := [182, 0, 62, 164, 0, 8, 21, 4, 167, 0, 4, 29, 62, 132, 4, 1, 167, 255, 197, 29, 172]
abbrev dktX5_greatest_2 : List UInt8 := dkwX5_greatest_2 ++ []
def dkwX5_greatest_1 : List UInt8 := [153, 0, 35, 29, 2, 159, 0, 25, 42, 27, 16, 14, 21, 4, 96, 182, 0, 62, 42, 27, 16, 14, 29, 96]
abbrev dktX5_greatest_1 : List UInt8 := dkwX5_greatest_1 ++ dktX5_greatest_2
def dkwX5_greatest_0 : List UInt8 := [2, 62, 3, 54, 4, 21, 4, 7, 162, 0, 59, 21, 4, 28, 159, 0, 45, 42, 21, 4, 27, 182, 0, 136]
abbrev dktX5_greatest_0 : List UInt8 := dkwX5_greatest_0 ++ dktX5_greatest_1
theorem dksX5_greatest_0 : cX5_greatest.data.toList.drop 0 = dktX5_greatest_0 := by decide +kernel
theorem dksX5_greatest_1 : cX5_greatest.data.toList.drop 24 = dktX5_greatest_1 := dk_seg dksX5_greatest_0 24 rfl rfl
theorem dksX5_greatest_2 : cX5_greatest.data.toList.drop 48 = dktX5_greatest_2 := dk_seg dksX5_greatest_1 24 rfl rfl
theorem dX5_greatest_0 : decode cX5_greatest 0 = .ok (.iconst (-1), 1) := dk_2 (dk_at dksX5_greatest_0 0 rfl rfl)
theorem dX5_greatest_1 : decode cX5_greatest 1 = .ok (.istore_n 3, 1) := dk_62 (dk_at dksX5_greatest_0 1 rfl rfl)
theorem dX5_greatest_2 : decode cX5_greatest 2 = .ok (.iconst 0, 1) := dk_3 (dk_at dksX5_greatest_0 2 rfl rfl)
theorem dX5_greatest_3 : decode cX5_greatest 3 = .ok (.istore 4, 2) := dk_54 4 (dk_at dksX5_greatest_0 3 rfl rfl)
theorem dX5_greatest_5 : decode cX5_greatest 5 = .ok (.iload 4, 2) := dk_21 4 (dk_at dksX5_greatest_0 5 rfl rfl)
theorem dX5_greatest_7 : decode cX5_greatest 7 = .ok (.iconst 4, 1) := dk_7 (dk_at dksX5_greatest_0 7 rfl rfl)
theorem dX5_greatest_8 : decode cX5_greatest 8 = .ok (.if_icmp .ge 59, 3) := dk_162 0 59 (dk_at dksX5_greatest_0 8 rfl rfl)
theorem dX5_greatest_11 : decode cX5_greatest 11 = .ok (.iload 4, 2) := dk_21 4 (dk_at dksX5_greatest_0 11 rfl rfl)
theorem dX5_greatest_13 : decode cX5_greatest 13 = .ok (.iload_n 2, 1) := dk_28 (dk_at dksX5_greatest_0 13 rfl rfl)
theorem dX5_greatest_14 : decode cX5_greatest 14 = .ok (.if_icmp .eq 45, 3) := dk_159 0 45 (dk_at dksX5_greatest_0 14 rfl rfl)
theorem dX5_greatest_17 : decode cX5_greatest 17 = .ok (.aload_n 0, 1) := dk_42 (dk_at dksX5_greatest_0 17 rfl rfl)
theorem dX5_greatest_18 : decode cX5_greatest 18 = .ok (.iload 4, 2) := dk_21 4 (dk_at dksX5_greatest_0 18 rfl rfl)
theorem dX5_greatest_20 : decode cX5_greatest 20 = .ok (.iload_n 1, 1) := dk_27 (dk_at dksX5_greatest_0 20 rfl rfl)
theorem dX5_greatest_21 : decode cX5_greatest 21 = .ok (.invokevirtual 136, 3) := dk_182 0 136 (dk_at dksX5_greatest_0 21 rfl rfl)
theorem dX5_greatest_24 : decode cX5_greatest 24 = .ok (.ifCond .eq 35, 3) := dk_153 0 35 (dk_at dksX5_greatest_1 0 rfl rfl)
theorem dX5_greatest_27 : decode cX5_greatest 27 = .ok (.iload_n 3, 1) := dk_29 (dk_at dksX5_greatest_1 3 rfl rfl)
theorem dX5_greatest_28 : decode cX5_greatest 28 = .ok (.iconst (-1), 1) := dk_2 (dk_at dksX5_greatest_1 4 rfl rfl)
theorem dX5_greatest_29 : decode cX5_greatest 29 = .ok (.if_icmp .eq 25, 3) := dk_159 0 25 (dk_at dksX5_greatest_1 5 rfl rfl)
theorem dX5_greatest_32 : decode cX5_greatest 32 = .ok (.aload_n 0, 1) := dk_42 (dk_at dksX5_greatest_1 8 rfl rfl)
theorem dX5_greatest_33 : decode cX5_greatest 33 = .ok (.iload_n 1, 1) := dk_27 (dk_at dksX5_greatest_1 9 rfl rfl)
theorem dX5_greatest_34 : decode cX5_greatest 34 = .ok (.bipush 14, 2) := dk_16 14 (dk_at dksX5_greatest_1 10 rfl rfl)
theorem dX5_greatest_36 : decode cX5_greatest 36 = .ok (.iload 4, 2) := dk_21 4 (dk_at dksX5_greatest_1 12 rfl rfl)
theorem dX5_greatest_38 : decode cX5_greatest 38 = .ok (.iadd, 1) := dk_96 (dk_at dksX5_greatest_1 14 rfl rfl)
theorem dX5_greatest_39 : decode cX5_greatest 39 = .ok (.invokevirtual 62, 3) := dk_182 0 62 (dk_at dksX5_greatest_1 15 rfl rfl)
theorem dX5_greatest_42 : decode cX5_greatest 42 = .ok (.aload_n 0, 1) := dk_42 (dk_at dksX5_greatest_1 18 rfl rfl)
theorem dX5_greatest_43 : decode cX5_greatest 43 = .ok (.iload_n 1, 1) := dk_27 (dk_at dksX5_greatest_1 19 rfl rfl)
theorem dX5_greatest_44 : decode cX5_greatest 44 = .ok (.bipush 14, 2) := dk_16 14 (dk_at dksX5_greatest_1 20 rfl rfl)
theorem dX5_greatest_46 : decode cX5_greatest 46 = .ok (.iload_n 3, 1) := dk_29 (dk_at dksX5_greatest_1 22 rfl rfl)
theorem dX5_greatest_47 : decode cX5_greatest 47 = .ok (.iadd, 1) := dk_96 (dk_at dksX5_greatest_1 23 rfl rfl)
theorem dX5_greatest_48 : decode cX5_greatest 48 = .ok (.invokevirtual 62, 3) := dk_182 0 62 (dk_at dksX5_greatest_2 0 rfl rfl)
theorem dX5_greatest_51 : decode cX5_greatest 51 = .ok (.if_icmp .le 8, 3) := dk_164 0 8 (dk_at dksX5_greatest_2 3 rfl rfl)
theorem dX5_greatest_54 : decode cX5_greatest 54 = .ok (.iload 4, 2) := dk_21 4 (dk_at dksX5_greatest_2 6 rfl rfl)
theorem dX5_greatest_56 : decode cX5_greatest 56 = .ok (.goto 4, 3) := dk_167 0 4 (dk_at dksX5_greatest_2 8 rfl rfl)
theorem dX5_greatest_59 : decode cX5_greatest 59 = .ok (.iload_n 3, 1) := dk_29 (dk_at dksX5_greatest_2 11 rfl rfl)
theorem dX5_greatest_60 : decode cX5_greatest 60 = .ok (.istore_n 3, 1) := dk_62 (dk_at dksX5_greatest_2 12 rfl rfl)
theorem dX5_greatest_61 : decode cX5_greatest 61 = .ok (.iinc 4 1, 3) := dk_132 4 1 (dk_at dksX5_greatest_2 13 rfl rfl)
theorem dX5_greatest_64 : decode cX5_greatest 64 = .ok (.goto (-59), 3) := dk_167 255 197 (dk_at dksX5_greatest_2 16 rfl rfl)
theorem dX5_greatest_67 : decode cX5_greatest 67 = .ok (.iload_n 3, 1) := dk_29 (dk_at dksX5_greatest_2 19 rfl rfl)
theorem dX5_greatest_68 : decode cX5_greatest 68 = .ok (.ireturn, 1) := dk_172 (dk_at dksX5_greatest_2 20 rfl rfl)
abbrev cX5_counts : ByteArray := prog_11_method_42_code
def yX5_counts : MethodName := ⟨RX5, "counts", "(II)Z"⟩
def dkwX5_counts_1 : List UInt8 := [104, 96, 46, 163, 0, 7, 4, 167, 0, 4, 3, 172]
abbrev dktX5_counts_1 : List UInt8 := dkwX5_counts_1 ++ []
def dkwX5_counts_0 : List UInt8 := [42, 28, 16, 14, 27, 96, 182, 0, 62, 62, 29, 158, 0, 23, 29, 42, 180, 0, 7, 17, 0, 187, 6, 27]
abbrev dktX5_counts_0 : List UInt8 := dkwX5_counts_0 ++ dktX5_counts_1
theorem dksX5_counts_0 : cX5_counts.data.toList.drop 0 = dktX5_counts_0 := by decide +kernel
theorem dksX5_counts_1 : cX5_counts.data.toList.drop 24 = dktX5_counts_1 := dk_seg dksX5_counts_0 24 rfl rfl
theorem dX5_counts_0 : decode cX5_counts 0 = .ok (.aload_n 0, 1) := dk_42 (dk_at dksX5_counts_0 0 rfl rfl)
theorem dX5_counts_1 : decode cX5_counts 1 = .ok (.iload_n 2, 1) := dk_28 (dk_at dksX5_counts_0 1 rfl rfl)
theorem dX5_counts_2 : decode cX5_counts 2 = .ok (.bipush 14, 2) := dk_16 14 (dk_at dksX5_counts_0 2 rfl rfl)
theorem dX5_counts_4 : decode cX5_counts 4 = .ok (.iload_n 1, 1) := dk_27 (dk_at dksX5_counts_0 4 rfl rfl)
theorem dX5_counts_5 : decode cX5_counts 5 = .ok (.iadd, 1) := dk_96 (dk_at dksX5_counts_0 5 rfl rfl)
theorem dX5_counts_6 : decode cX5_counts 6 = .ok (.invokevirtual 62, 3) := dk_182 0 62 (dk_at dksX5_counts_0 6 rfl rfl)
theorem dX5_counts_9 : decode cX5_counts 9 = .ok (.istore_n 3, 1) := dk_62 (dk_at dksX5_counts_0 9 rfl rfl)
theorem dX5_counts_10 : decode cX5_counts 10 = .ok (.iload_n 3, 1) := dk_29 (dk_at dksX5_counts_0 10 rfl rfl)
theorem dX5_counts_11 : decode cX5_counts 11 = .ok (.ifCond .le 23, 3) := dk_158 0 23 (dk_at dksX5_counts_0 11 rfl rfl)
theorem dX5_counts_14 : decode cX5_counts 14 = .ok (.iload_n 3, 1) := dk_29 (dk_at dksX5_counts_0 14 rfl rfl)
theorem dX5_counts_15 : decode cX5_counts 15 = .ok (.aload_n 0, 1) := dk_42 (dk_at dksX5_counts_0 15 rfl rfl)
theorem dX5_counts_16 : decode cX5_counts 16 = .ok (.getfield 7, 3) := dk_180 0 7 (dk_at dksX5_counts_0 16 rfl rfl)
theorem dX5_counts_19 : decode cX5_counts 19 = .ok (.sipush 187, 3) := dk_17 0 187 (dk_at dksX5_counts_0 19 rfl rfl)
theorem dX5_counts_22 : decode cX5_counts 22 = .ok (.iconst 3, 1) := dk_6 (dk_at dksX5_counts_0 22 rfl rfl)
theorem dX5_counts_23 : decode cX5_counts 23 = .ok (.iload_n 1, 1) := dk_27 (dk_at dksX5_counts_0 23 rfl rfl)
theorem dX5_counts_24 : decode cX5_counts 24 = .ok (.imul, 1) := dk_104 (dk_at dksX5_counts_1 0 rfl rfl)
theorem dX5_counts_25 : decode cX5_counts 25 = .ok (.iadd, 1) := dk_96 (dk_at dksX5_counts_1 1 rfl rfl)
theorem dX5_counts_26 : decode cX5_counts 26 = .ok (.iaload, 1) := dk_46 (dk_at dksX5_counts_1 2 rfl rfl)
theorem dX5_counts_27 : decode cX5_counts 27 = .ok (.if_icmp .gt 7, 3) := dk_163 0 7 (dk_at dksX5_counts_1 3 rfl rfl)
theorem dX5_counts_30 : decode cX5_counts 30 = .ok (.iconst 1, 1) := dk_4 (dk_at dksX5_counts_1 6 rfl rfl)
theorem dX5_counts_31 : decode cX5_counts 31 = .ok (.goto 4, 3) := dk_167 0 4 (dk_at dksX5_counts_1 7 rfl rfl)
theorem dX5_counts_34 : decode cX5_counts 34 = .ok (.iconst 0, 1) := dk_3 (dk_at dksX5_counts_1 10 rfl rfl)
theorem dX5_counts_35 : decode cX5_counts 35 = .ok (.ireturn, 1) := dk_172 (dk_at dksX5_counts_1 11 rfl rfl)
abbrev cX5_vectors : ByteArray := prog_11_method_47_code
def yX5_vectors : MethodName := ⟨RX5, "vectors", "()V"⟩
def dkwX5_vectors_3 : List UInt8 := [167, 255, 223, 132, 1, 1, 167, 255, 205, 177]
abbrev dktX5_vectors_3 : List UInt8 := dkwX5_vectors_3 ++ []
def dkwX5_vectors_2 : List UInt8 := [8, 27, 104, 96, 4, 96, 28, 96, 42, 180, 0, 22, 7, 27, 104, 28, 96, 46, 79, 132, 2, 1]
abbrev dktX5_vectors_2 : List UInt8 := dkwX5_vectors_2 ++ dktX5_vectors_3
def dkwX5_vectors_1 : List UInt8 := [60, 27, 42, 180, 0, 7, 3, 46, 162, 0, 47, 3, 61, 28, 7, 162, 0, 34, 42, 180, 0, 7, 16, 11]
abbrev dktX5_vectors_1 : List UInt8 := dkwX5_vectors_1 ++ dktX5_vectors_2
def dkwX5_vectors_0 : List UInt8 := [3, 60, 27, 42, 180, 0, 7, 3, 46, 162, 0, 14, 42, 27, 182, 0, 152, 132, 1, 1, 167, 255, 238, 3]
abbrev dktX5_vectors_0 : List UInt8 := dkwX5_vectors_0 ++ dktX5_vectors_1
theorem dksX5_vectors_0 : cX5_vectors.data.toList.drop 0 = dktX5_vectors_0 := by decide +kernel
theorem dksX5_vectors_1 : cX5_vectors.data.toList.drop 24 = dktX5_vectors_1 := dk_seg dksX5_vectors_0 24 rfl rfl
theorem dksX5_vectors_2 : cX5_vectors.data.toList.drop 48 = dktX5_vectors_2 := dk_seg dksX5_vectors_1 24 rfl rfl
theorem dksX5_vectors_3 : cX5_vectors.data.toList.drop 70 = dktX5_vectors_3 := dk_seg dksX5_vectors_2 22 rfl rfl
theorem dX5_vectors_0 : decode cX5_vectors 0 = .ok (.iconst 0, 1) := dk_3 (dk_at dksX5_vectors_0 0 rfl rfl)
theorem dX5_vectors_1 : decode cX5_vectors 1 = .ok (.istore_n 1, 1) := dk_60 (dk_at dksX5_vectors_0 1 rfl rfl)
theorem dX5_vectors_2 : decode cX5_vectors 2 = .ok (.iload_n 1, 1) := dk_27 (dk_at dksX5_vectors_0 2 rfl rfl)
theorem dX5_vectors_3 : decode cX5_vectors 3 = .ok (.aload_n 0, 1) := dk_42 (dk_at dksX5_vectors_0 3 rfl rfl)
theorem dX5_vectors_4 : decode cX5_vectors 4 = .ok (.getfield 7, 3) := dk_180 0 7 (dk_at dksX5_vectors_0 4 rfl rfl)
theorem dX5_vectors_7 : decode cX5_vectors 7 = .ok (.iconst 0, 1) := dk_3 (dk_at dksX5_vectors_0 7 rfl rfl)
theorem dX5_vectors_8 : decode cX5_vectors 8 = .ok (.iaload, 1) := dk_46 (dk_at dksX5_vectors_0 8 rfl rfl)
theorem dX5_vectors_9 : decode cX5_vectors 9 = .ok (.if_icmp .ge 14, 3) := dk_162 0 14 (dk_at dksX5_vectors_0 9 rfl rfl)
theorem dX5_vectors_12 : decode cX5_vectors 12 = .ok (.aload_n 0, 1) := dk_42 (dk_at dksX5_vectors_0 12 rfl rfl)
theorem dX5_vectors_13 : decode cX5_vectors 13 = .ok (.iload_n 1, 1) := dk_27 (dk_at dksX5_vectors_0 13 rfl rfl)
theorem dX5_vectors_14 : decode cX5_vectors 14 = .ok (.invokevirtual 152, 3) := dk_182 0 152 (dk_at dksX5_vectors_0 14 rfl rfl)
theorem dX5_vectors_17 : decode cX5_vectors 17 = .ok (.iinc 1 1, 3) := dk_132 1 1 (dk_at dksX5_vectors_0 17 rfl rfl)
theorem dX5_vectors_20 : decode cX5_vectors 20 = .ok (.goto (-18), 3) := dk_167 255 238 (dk_at dksX5_vectors_0 20 rfl rfl)
theorem dX5_vectors_23 : decode cX5_vectors 23 = .ok (.iconst 0, 1) := dk_3 (dk_at dksX5_vectors_0 23 rfl rfl)
theorem dX5_vectors_24 : decode cX5_vectors 24 = .ok (.istore_n 1, 1) := dk_60 (dk_at dksX5_vectors_1 0 rfl rfl)
theorem dX5_vectors_25 : decode cX5_vectors 25 = .ok (.iload_n 1, 1) := dk_27 (dk_at dksX5_vectors_1 1 rfl rfl)
theorem dX5_vectors_26 : decode cX5_vectors 26 = .ok (.aload_n 0, 1) := dk_42 (dk_at dksX5_vectors_1 2 rfl rfl)
theorem dX5_vectors_27 : decode cX5_vectors 27 = .ok (.getfield 7, 3) := dk_180 0 7 (dk_at dksX5_vectors_1 3 rfl rfl)
theorem dX5_vectors_30 : decode cX5_vectors 30 = .ok (.iconst 0, 1) := dk_3 (dk_at dksX5_vectors_1 6 rfl rfl)
theorem dX5_vectors_31 : decode cX5_vectors 31 = .ok (.iaload, 1) := dk_46 (dk_at dksX5_vectors_1 7 rfl rfl)
theorem dX5_vectors_32 : decode cX5_vectors 32 = .ok (.if_icmp .ge 47, 3) := dk_162 0 47 (dk_at dksX5_vectors_1 8 rfl rfl)
theorem dX5_vectors_35 : decode cX5_vectors 35 = .ok (.iconst 0, 1) := dk_3 (dk_at dksX5_vectors_1 11 rfl rfl)
theorem dX5_vectors_36 : decode cX5_vectors 36 = .ok (.istore_n 2, 1) := dk_61 (dk_at dksX5_vectors_1 12 rfl rfl)
theorem dX5_vectors_37 : decode cX5_vectors 37 = .ok (.iload_n 2, 1) := dk_28 (dk_at dksX5_vectors_1 13 rfl rfl)
theorem dX5_vectors_38 : decode cX5_vectors 38 = .ok (.iconst 4, 1) := dk_7 (dk_at dksX5_vectors_1 14 rfl rfl)
theorem dX5_vectors_39 : decode cX5_vectors 39 = .ok (.if_icmp .ge 34, 3) := dk_162 0 34 (dk_at dksX5_vectors_1 15 rfl rfl)
theorem dX5_vectors_42 : decode cX5_vectors 42 = .ok (.aload_n 0, 1) := dk_42 (dk_at dksX5_vectors_1 18 rfl rfl)
theorem dX5_vectors_43 : decode cX5_vectors 43 = .ok (.getfield 7, 3) := dk_180 0 7 (dk_at dksX5_vectors_1 19 rfl rfl)
theorem dX5_vectors_46 : decode cX5_vectors 46 = .ok (.bipush 11, 2) := dk_16 11 (dk_at dksX5_vectors_1 22 rfl rfl)
theorem dX5_vectors_48 : decode cX5_vectors 48 = .ok (.iconst 5, 1) := dk_8 (dk_at dksX5_vectors_2 0 rfl rfl)
theorem dX5_vectors_49 : decode cX5_vectors 49 = .ok (.iload_n 1, 1) := dk_27 (dk_at dksX5_vectors_2 1 rfl rfl)
theorem dX5_vectors_50 : decode cX5_vectors 50 = .ok (.imul, 1) := dk_104 (dk_at dksX5_vectors_2 2 rfl rfl)
theorem dX5_vectors_51 : decode cX5_vectors 51 = .ok (.iadd, 1) := dk_96 (dk_at dksX5_vectors_2 3 rfl rfl)
theorem dX5_vectors_52 : decode cX5_vectors 52 = .ok (.iconst 1, 1) := dk_4 (dk_at dksX5_vectors_2 4 rfl rfl)
theorem dX5_vectors_53 : decode cX5_vectors 53 = .ok (.iadd, 1) := dk_96 (dk_at dksX5_vectors_2 5 rfl rfl)
theorem dX5_vectors_54 : decode cX5_vectors 54 = .ok (.iload_n 2, 1) := dk_28 (dk_at dksX5_vectors_2 6 rfl rfl)
theorem dX5_vectors_55 : decode cX5_vectors 55 = .ok (.iadd, 1) := dk_96 (dk_at dksX5_vectors_2 7 rfl rfl)
theorem dX5_vectors_56 : decode cX5_vectors 56 = .ok (.aload_n 0, 1) := dk_42 (dk_at dksX5_vectors_2 8 rfl rfl)
theorem dX5_vectors_57 : decode cX5_vectors 57 = .ok (.getfield 22, 3) := dk_180 0 22 (dk_at dksX5_vectors_2 9 rfl rfl)
theorem dX5_vectors_60 : decode cX5_vectors 60 = .ok (.iconst 4, 1) := dk_7 (dk_at dksX5_vectors_2 12 rfl rfl)
theorem dX5_vectors_61 : decode cX5_vectors 61 = .ok (.iload_n 1, 1) := dk_27 (dk_at dksX5_vectors_2 13 rfl rfl)
theorem dX5_vectors_62 : decode cX5_vectors 62 = .ok (.imul, 1) := dk_104 (dk_at dksX5_vectors_2 14 rfl rfl)
theorem dX5_vectors_63 : decode cX5_vectors 63 = .ok (.iload_n 2, 1) := dk_28 (dk_at dksX5_vectors_2 15 rfl rfl)
theorem dX5_vectors_64 : decode cX5_vectors 64 = .ok (.iadd, 1) := dk_96 (dk_at dksX5_vectors_2 16 rfl rfl)
theorem dX5_vectors_65 : decode cX5_vectors 65 = .ok (.iaload, 1) := dk_46 (dk_at dksX5_vectors_2 17 rfl rfl)
theorem dX5_vectors_66 : decode cX5_vectors 66 = .ok (.iastore, 1) := dk_79 (dk_at dksX5_vectors_2 18 rfl rfl)
theorem dX5_vectors_67 : decode cX5_vectors 67 = .ok (.iinc 2 1, 3) := dk_132 2 1 (dk_at dksX5_vectors_2 19 rfl rfl)
theorem dX5_vectors_70 : decode cX5_vectors 70 = .ok (.goto (-33), 3) := dk_167 255 223 (dk_at dksX5_vectors_3 0 rfl rfl)
theorem dX5_vectors_73 : decode cX5_vectors 73 = .ok (.iinc 1 1, 3) := dk_132 1 1 (dk_at dksX5_vectors_3 3 rfl rfl)
theorem dX5_vectors_76 : decode cX5_vectors 76 = .ok (.goto (-51), 3) := dk_167 255 205 (dk_at dksX5_vectors_3 6 rfl rfl)
theorem dX5_vectors_79 : decode cX5_vectors 79 = .ok (.return_, 1) := dk_177 (dk_at dksX5_vectors_3 9 rfl rfl)
abbrev cX5_finds : ByteArray := prog_11_method_46_code
def yX5_finds : MethodName := ⟨RX5, "finds", "(I)V"⟩
def dkwX5_finds_10 : List UInt8 := [104, 6, 96, 21, 5, 79, 177]
abbrev dktX5_finds_10 : List UInt8 := dkwX5_finds_10 ++ []
def dkwX5_finds_9 : List UInt8 := [27, 104, 4, 96, 29, 79, 42, 180, 0, 22, 7, 27, 104, 5, 96, 21, 4, 79, 42, 180, 0, 22, 7, 27]
abbrev dktX5_finds_9 : List UInt8 := dkwX5_finds_9 ++ dktX5_finds_10
def dkwX5_finds_8 : List UInt8 := [21, 11, 54, 6, 132, 7, 1, 167, 255, 83, 42, 180, 0, 22, 7, 27, 104, 28, 79, 42, 180, 0, 22, 7]
abbrev dktX5_finds_8 : List UInt8 := dkwX5_finds_8 ++ dktX5_finds_9
def dkwX5_finds_7 : List UInt8 := [96, 46, 61, 21, 10, 62, 42, 180, 0, 7, 21, 9, 6, 96, 46, 4, 96, 54, 4, 21, 7, 54, 5]
abbrev dktX5_finds_7 : List UInt8 := dkwX5_finds_7 ++ dktX5_finds_8
def dkwX5_finds_6 : List UInt8 := [29, 161, 0, 16, 21, 10, 29, 160, 0, 44, 21, 11, 21, 6, 162, 0, 37, 42, 180, 0, 7, 21, 9, 4]
abbrev dktX5_finds_6 : List UInt8 := dkwX5_finds_6 ++ dktX5_finds_7
def dkwX5_finds_5 : List UInt8 := [21, 9, 4, 96, 46, 28, 161, 0, 35, 42, 180, 0, 7, 21, 9, 4, 96, 46, 28, 160, 0, 56, 21, 10]
abbrev dktX5_finds_5 : List UInt8 := dkwX5_finds_5 ++ dktX5_finds_6
def dkwX5_finds_4 : List UInt8 := [96, 46, 42, 21, 7, 6, 182, 0, 62, 96, 54, 10, 42, 21, 8, 182, 0, 53, 54, 11, 42, 180, 0, 7]
abbrev dktX5_finds_4 : List UInt8 := dkwX5_finds_4 ++ dktX5_finds_5
def dkwX5_finds_3 : List UInt8 := [160, 0, 123, 42, 180, 0, 7, 21, 9, 6, 96, 46, 16, 10, 162, 0, 109, 42, 180, 0, 7, 21, 9, 5]
abbrev dktX5_finds_3 : List UInt8 := dkwX5_finds_3 ++ dktX5_finds_4
def dkwX5_finds_2 : List UInt8 := [21, 8, 104, 96, 54, 9, 42, 21, 7, 27, 182, 0, 149, 153, 0, 134, 42, 21, 7, 7, 182, 0, 62, 4]
abbrev dktX5_finds_2 : List UInt8 := dkwX5_finds_2 ++ dktX5_finds_3
def dkwX5_finds_1 : List UInt8 := [21, 7, 42, 180, 0, 7, 8, 46, 162, 0, 168, 42, 21, 7, 27, 182, 0, 146, 54, 8, 16, 11, 8]
abbrev dktX5_finds_1 : List UInt8 := dkwX5_finds_1 ++ dktX5_finds_2
def dkwX5_finds_0 : List UInt8 := [42, 27, 182, 0, 53, 61, 3, 62, 3, 54, 4, 2, 54, 5, 42, 27, 182, 0, 53, 54, 6, 3, 54, 7]
abbrev dktX5_finds_0 : List UInt8 := dkwX5_finds_0 ++ dktX5_finds_1
theorem dksX5_finds_0 : cX5_finds.data.toList.drop 0 = dktX5_finds_0 := by decide +kernel
theorem dksX5_finds_1 : cX5_finds.data.toList.drop 24 = dktX5_finds_1 := dk_seg dksX5_finds_0 24 rfl rfl
theorem dksX5_finds_2 : cX5_finds.data.toList.drop 47 = dktX5_finds_2 := dk_seg dksX5_finds_1 23 rfl rfl
theorem dksX5_finds_3 : cX5_finds.data.toList.drop 71 = dktX5_finds_3 := dk_seg dksX5_finds_2 24 rfl rfl
theorem dksX5_finds_4 : cX5_finds.data.toList.drop 95 = dktX5_finds_4 := dk_seg dksX5_finds_3 24 rfl rfl
theorem dksX5_finds_5 : cX5_finds.data.toList.drop 119 = dktX5_finds_5 := dk_seg dksX5_finds_4 24 rfl rfl
theorem dksX5_finds_6 : cX5_finds.data.toList.drop 143 = dktX5_finds_6 := dk_seg dksX5_finds_5 24 rfl rfl
theorem dksX5_finds_7 : cX5_finds.data.toList.drop 167 = dktX5_finds_7 := dk_seg dksX5_finds_6 24 rfl rfl
theorem dksX5_finds_8 : cX5_finds.data.toList.drop 190 = dktX5_finds_8 := dk_seg dksX5_finds_7 23 rfl rfl
theorem dksX5_finds_9 : cX5_finds.data.toList.drop 214 = dktX5_finds_9 := dk_seg dksX5_finds_8 24 rfl rfl
theorem dksX5_finds_10 : cX5_finds.data.toList.drop 238 = dktX5_finds_10 := dk_seg dksX5_finds_9 24 rfl rfl
theorem dX5_finds_0 : decode cX5_finds 0 = .ok (.aload_n 0, 1) := dk_42 (dk_at dksX5_finds_0 0 rfl rfl)
theorem dX5_finds_1 : decode cX5_finds 1 = .ok (.iload_n 1, 1) := dk_27 (dk_at dksX5_finds_0 1 rfl rfl)
theorem dX5_finds_2 : decode cX5_finds 2 = .ok (.invokevirtual 53, 3) := dk_182 0 53 (dk_at dksX5_finds_0 2 rfl rfl)
theorem dX5_finds_5 : decode cX5_finds 5 = .ok (.istore_n 2, 1) := dk_61 (dk_at dksX5_finds_0 5 rfl rfl)
theorem dX5_finds_6 : decode cX5_finds 6 = .ok (.iconst 0, 1) := dk_3 (dk_at dksX5_finds_0 6 rfl rfl)
theorem dX5_finds_7 : decode cX5_finds 7 = .ok (.istore_n 3, 1) := dk_62 (dk_at dksX5_finds_0 7 rfl rfl)
theorem dX5_finds_8 : decode cX5_finds 8 = .ok (.iconst 0, 1) := dk_3 (dk_at dksX5_finds_0 8 rfl rfl)
theorem dX5_finds_9 : decode cX5_finds 9 = .ok (.istore 4, 2) := dk_54 4 (dk_at dksX5_finds_0 9 rfl rfl)
theorem dX5_finds_11 : decode cX5_finds 11 = .ok (.iconst (-1), 1) := dk_2 (dk_at dksX5_finds_0 11 rfl rfl)
theorem dX5_finds_12 : decode cX5_finds 12 = .ok (.istore 5, 2) := dk_54 5 (dk_at dksX5_finds_0 12 rfl rfl)
theorem dX5_finds_14 : decode cX5_finds 14 = .ok (.aload_n 0, 1) := dk_42 (dk_at dksX5_finds_0 14 rfl rfl)
theorem dX5_finds_15 : decode cX5_finds 15 = .ok (.iload_n 1, 1) := dk_27 (dk_at dksX5_finds_0 15 rfl rfl)
theorem dX5_finds_16 : decode cX5_finds 16 = .ok (.invokevirtual 53, 3) := dk_182 0 53 (dk_at dksX5_finds_0 16 rfl rfl)
theorem dX5_finds_19 : decode cX5_finds 19 = .ok (.istore 6, 2) := dk_54 6 (dk_at dksX5_finds_0 19 rfl rfl)
theorem dX5_finds_21 : decode cX5_finds 21 = .ok (.iconst 0, 1) := dk_3 (dk_at dksX5_finds_0 21 rfl rfl)
theorem dX5_finds_22 : decode cX5_finds 22 = .ok (.istore 7, 2) := dk_54 7 (dk_at dksX5_finds_0 22 rfl rfl)
theorem dX5_finds_24 : decode cX5_finds 24 = .ok (.iload 7, 2) := dk_21 7 (dk_at dksX5_finds_1 0 rfl rfl)
theorem dX5_finds_26 : decode cX5_finds 26 = .ok (.aload_n 0, 1) := dk_42 (dk_at dksX5_finds_1 2 rfl rfl)
theorem dX5_finds_27 : decode cX5_finds 27 = .ok (.getfield 7, 3) := dk_180 0 7 (dk_at dksX5_finds_1 3 rfl rfl)
theorem dX5_finds_30 : decode cX5_finds 30 = .ok (.iconst 5, 1) := dk_8 (dk_at dksX5_finds_1 6 rfl rfl)
theorem dX5_finds_31 : decode cX5_finds 31 = .ok (.iaload, 1) := dk_46 (dk_at dksX5_finds_1 7 rfl rfl)
theorem dX5_finds_32 : decode cX5_finds 32 = .ok (.if_icmp .ge 168, 3) := dk_162 0 168 (dk_at dksX5_finds_1 8 rfl rfl)
theorem dX5_finds_35 : decode cX5_finds 35 = .ok (.aload_n 0, 1) := dk_42 (dk_at dksX5_finds_1 11 rfl rfl)
theorem dX5_finds_36 : decode cX5_finds 36 = .ok (.iload 7, 2) := dk_21 7 (dk_at dksX5_finds_1 12 rfl rfl)
theorem dX5_finds_38 : decode cX5_finds 38 = .ok (.iload_n 1, 1) := dk_27 (dk_at dksX5_finds_1 14 rfl rfl)
theorem dX5_finds_39 : decode cX5_finds 39 = .ok (.invokevirtual 146, 3) := dk_182 0 146 (dk_at dksX5_finds_1 15 rfl rfl)
theorem dX5_finds_42 : decode cX5_finds 42 = .ok (.istore 8, 2) := dk_54 8 (dk_at dksX5_finds_1 18 rfl rfl)
theorem dX5_finds_44 : decode cX5_finds 44 = .ok (.bipush 11, 2) := dk_16 11 (dk_at dksX5_finds_1 20 rfl rfl)
theorem dX5_finds_46 : decode cX5_finds 46 = .ok (.iconst 5, 1) := dk_8 (dk_at dksX5_finds_1 22 rfl rfl)
theorem dX5_finds_47 : decode cX5_finds 47 = .ok (.iload 8, 2) := dk_21 8 (dk_at dksX5_finds_2 0 rfl rfl)
theorem dX5_finds_49 : decode cX5_finds 49 = .ok (.imul, 1) := dk_104 (dk_at dksX5_finds_2 2 rfl rfl)
theorem dX5_finds_50 : decode cX5_finds 50 = .ok (.iadd, 1) := dk_96 (dk_at dksX5_finds_2 3 rfl rfl)
theorem dX5_finds_51 : decode cX5_finds 51 = .ok (.istore 9, 2) := dk_54 9 (dk_at dksX5_finds_2 4 rfl rfl)
theorem dX5_finds_53 : decode cX5_finds 53 = .ok (.aload_n 0, 1) := dk_42 (dk_at dksX5_finds_2 6 rfl rfl)
theorem dX5_finds_54 : decode cX5_finds 54 = .ok (.iload 7, 2) := dk_21 7 (dk_at dksX5_finds_2 7 rfl rfl)
theorem dX5_finds_56 : decode cX5_finds 56 = .ok (.iload_n 1, 1) := dk_27 (dk_at dksX5_finds_2 9 rfl rfl)
theorem dX5_finds_57 : decode cX5_finds 57 = .ok (.invokevirtual 149, 3) := dk_182 0 149 (dk_at dksX5_finds_2 10 rfl rfl)
theorem dX5_finds_60 : decode cX5_finds 60 = .ok (.ifCond .eq 134, 3) := dk_153 0 134 (dk_at dksX5_finds_2 13 rfl rfl)
theorem dX5_finds_63 : decode cX5_finds 63 = .ok (.aload_n 0, 1) := dk_42 (dk_at dksX5_finds_2 16 rfl rfl)
theorem dX5_finds_64 : decode cX5_finds 64 = .ok (.iload 7, 2) := dk_21 7 (dk_at dksX5_finds_2 17 rfl rfl)
theorem dX5_finds_66 : decode cX5_finds 66 = .ok (.iconst 4, 1) := dk_7 (dk_at dksX5_finds_2 19 rfl rfl)
theorem dX5_finds_67 : decode cX5_finds 67 = .ok (.invokevirtual 62, 3) := dk_182 0 62 (dk_at dksX5_finds_2 20 rfl rfl)
theorem dX5_finds_70 : decode cX5_finds 70 = .ok (.iconst 1, 1) := dk_4 (dk_at dksX5_finds_2 23 rfl rfl)
theorem dX5_finds_71 : decode cX5_finds 71 = .ok (.if_icmp .ne 123, 3) := dk_160 0 123 (dk_at dksX5_finds_3 0 rfl rfl)
theorem dX5_finds_74 : decode cX5_finds 74 = .ok (.aload_n 0, 1) := dk_42 (dk_at dksX5_finds_3 3 rfl rfl)
theorem dX5_finds_75 : decode cX5_finds 75 = .ok (.getfield 7, 3) := dk_180 0 7 (dk_at dksX5_finds_3 4 rfl rfl)
theorem dX5_finds_78 : decode cX5_finds 78 = .ok (.iload 9, 2) := dk_21 9 (dk_at dksX5_finds_3 7 rfl rfl)
theorem dX5_finds_80 : decode cX5_finds 80 = .ok (.iconst 3, 1) := dk_6 (dk_at dksX5_finds_3 9 rfl rfl)
theorem dX5_finds_81 : decode cX5_finds 81 = .ok (.iadd, 1) := dk_96 (dk_at dksX5_finds_3 10 rfl rfl)
theorem dX5_finds_82 : decode cX5_finds 82 = .ok (.iaload, 1) := dk_46 (dk_at dksX5_finds_3 11 rfl rfl)
theorem dX5_finds_83 : decode cX5_finds 83 = .ok (.bipush 10, 2) := dk_16 10 (dk_at dksX5_finds_3 12 rfl rfl)
theorem dX5_finds_85 : decode cX5_finds 85 = .ok (.if_icmp .ge 109, 3) := dk_162 0 109 (dk_at dksX5_finds_3 14 rfl rfl)
theorem dX5_finds_88 : decode cX5_finds 88 = .ok (.aload_n 0, 1) := dk_42 (dk_at dksX5_finds_3 17 rfl rfl)
theorem dX5_finds_89 : decode cX5_finds 89 = .ok (.getfield 7, 3) := dk_180 0 7 (dk_at dksX5_finds_3 18 rfl rfl)
theorem dX5_finds_92 : decode cX5_finds 92 = .ok (.iload 9, 2) := dk_21 9 (dk_at dksX5_finds_3 21 rfl rfl)
theorem dX5_finds_94 : decode cX5_finds 94 = .ok (.iconst 2, 1) := dk_5 (dk_at dksX5_finds_3 23 rfl rfl)
theorem dX5_finds_95 : decode cX5_finds 95 = .ok (.iadd, 1) := dk_96 (dk_at dksX5_finds_4 0 rfl rfl)
theorem dX5_finds_96 : decode cX5_finds 96 = .ok (.iaload, 1) := dk_46 (dk_at dksX5_finds_4 1 rfl rfl)
theorem dX5_finds_97 : decode cX5_finds 97 = .ok (.aload_n 0, 1) := dk_42 (dk_at dksX5_finds_4 2 rfl rfl)
theorem dX5_finds_98 : decode cX5_finds 98 = .ok (.iload 7, 2) := dk_21 7 (dk_at dksX5_finds_4 3 rfl rfl)
theorem dX5_finds_100 : decode cX5_finds 100 = .ok (.iconst 3, 1) := dk_6 (dk_at dksX5_finds_4 5 rfl rfl)
theorem dX5_finds_101 : decode cX5_finds 101 = .ok (.invokevirtual 62, 3) := dk_182 0 62 (dk_at dksX5_finds_4 6 rfl rfl)
theorem dX5_finds_104 : decode cX5_finds 104 = .ok (.iadd, 1) := dk_96 (dk_at dksX5_finds_4 9 rfl rfl)
theorem dX5_finds_105 : decode cX5_finds 105 = .ok (.istore 10, 2) := dk_54 10 (dk_at dksX5_finds_4 10 rfl rfl)
theorem dX5_finds_107 : decode cX5_finds 107 = .ok (.aload_n 0, 1) := dk_42 (dk_at dksX5_finds_4 12 rfl rfl)
theorem dX5_finds_108 : decode cX5_finds 108 = .ok (.iload 8, 2) := dk_21 8 (dk_at dksX5_finds_4 13 rfl rfl)
theorem dX5_finds_110 : decode cX5_finds 110 = .ok (.invokevirtual 53, 3) := dk_182 0 53 (dk_at dksX5_finds_4 15 rfl rfl)
theorem dX5_finds_113 : decode cX5_finds 113 = .ok (.istore 11, 2) := dk_54 11 (dk_at dksX5_finds_4 18 rfl rfl)
theorem dX5_finds_115 : decode cX5_finds 115 = .ok (.aload_n 0, 1) := dk_42 (dk_at dksX5_finds_4 20 rfl rfl)
theorem dX5_finds_116 : decode cX5_finds 116 = .ok (.getfield 7, 3) := dk_180 0 7 (dk_at dksX5_finds_4 21 rfl rfl)
theorem dX5_finds_119 : decode cX5_finds 119 = .ok (.iload 9, 2) := dk_21 9 (dk_at dksX5_finds_5 0 rfl rfl)
theorem dX5_finds_121 : decode cX5_finds 121 = .ok (.iconst 1, 1) := dk_4 (dk_at dksX5_finds_5 2 rfl rfl)
theorem dX5_finds_122 : decode cX5_finds 122 = .ok (.iadd, 1) := dk_96 (dk_at dksX5_finds_5 3 rfl rfl)
theorem dX5_finds_123 : decode cX5_finds 123 = .ok (.iaload, 1) := dk_46 (dk_at dksX5_finds_5 4 rfl rfl)
theorem dX5_finds_124 : decode cX5_finds 124 = .ok (.iload_n 2, 1) := dk_28 (dk_at dksX5_finds_5 5 rfl rfl)
theorem dX5_finds_125 : decode cX5_finds 125 = .ok (.if_icmp .lt 35, 3) := dk_161 0 35 (dk_at dksX5_finds_5 6 rfl rfl)
theorem dX5_finds_128 : decode cX5_finds 128 = .ok (.aload_n 0, 1) := dk_42 (dk_at dksX5_finds_5 9 rfl rfl)
theorem dX5_finds_129 : decode cX5_finds 129 = .ok (.getfield 7, 3) := dk_180 0 7 (dk_at dksX5_finds_5 10 rfl rfl)
theorem dX5_finds_132 : decode cX5_finds 132 = .ok (.iload 9, 2) := dk_21 9 (dk_at dksX5_finds_5 13 rfl rfl)
theorem dX5_finds_134 : decode cX5_finds 134 = .ok (.iconst 1, 1) := dk_4 (dk_at dksX5_finds_5 15 rfl rfl)
theorem dX5_finds_135 : decode cX5_finds 135 = .ok (.iadd, 1) := dk_96 (dk_at dksX5_finds_5 16 rfl rfl)
theorem dX5_finds_136 : decode cX5_finds 136 = .ok (.iaload, 1) := dk_46 (dk_at dksX5_finds_5 17 rfl rfl)
theorem dX5_finds_137 : decode cX5_finds 137 = .ok (.iload_n 2, 1) := dk_28 (dk_at dksX5_finds_5 18 rfl rfl)
theorem dX5_finds_138 : decode cX5_finds 138 = .ok (.if_icmp .ne 56, 3) := dk_160 0 56 (dk_at dksX5_finds_5 19 rfl rfl)
theorem dX5_finds_141 : decode cX5_finds 141 = .ok (.iload 10, 2) := dk_21 10 (dk_at dksX5_finds_5 22 rfl rfl)
theorem dX5_finds_143 : decode cX5_finds 143 = .ok (.iload_n 3, 1) := dk_29 (dk_at dksX5_finds_6 0 rfl rfl)
theorem dX5_finds_144 : decode cX5_finds 144 = .ok (.if_icmp .lt 16, 3) := dk_161 0 16 (dk_at dksX5_finds_6 1 rfl rfl)
theorem dX5_finds_147 : decode cX5_finds 147 = .ok (.iload 10, 2) := dk_21 10 (dk_at dksX5_finds_6 4 rfl rfl)
theorem dX5_finds_149 : decode cX5_finds 149 = .ok (.iload_n 3, 1) := dk_29 (dk_at dksX5_finds_6 6 rfl rfl)
theorem dX5_finds_150 : decode cX5_finds 150 = .ok (.if_icmp .ne 44, 3) := dk_160 0 44 (dk_at dksX5_finds_6 7 rfl rfl)
theorem dX5_finds_153 : decode cX5_finds 153 = .ok (.iload 11, 2) := dk_21 11 (dk_at dksX5_finds_6 10 rfl rfl)
theorem dX5_finds_155 : decode cX5_finds 155 = .ok (.iload 6, 2) := dk_21 6 (dk_at dksX5_finds_6 12 rfl rfl)
theorem dX5_finds_157 : decode cX5_finds 157 = .ok (.if_icmp .ge 37, 3) := dk_162 0 37 (dk_at dksX5_finds_6 14 rfl rfl)
theorem dX5_finds_160 : decode cX5_finds 160 = .ok (.aload_n 0, 1) := dk_42 (dk_at dksX5_finds_6 17 rfl rfl)
theorem dX5_finds_161 : decode cX5_finds 161 = .ok (.getfield 7, 3) := dk_180 0 7 (dk_at dksX5_finds_6 18 rfl rfl)
theorem dX5_finds_164 : decode cX5_finds 164 = .ok (.iload 9, 2) := dk_21 9 (dk_at dksX5_finds_6 21 rfl rfl)
theorem dX5_finds_166 : decode cX5_finds 166 = .ok (.iconst 1, 1) := dk_4 (dk_at dksX5_finds_6 23 rfl rfl)
theorem dX5_finds_167 : decode cX5_finds 167 = .ok (.iadd, 1) := dk_96 (dk_at dksX5_finds_7 0 rfl rfl)
theorem dX5_finds_168 : decode cX5_finds 168 = .ok (.iaload, 1) := dk_46 (dk_at dksX5_finds_7 1 rfl rfl)
theorem dX5_finds_169 : decode cX5_finds 169 = .ok (.istore_n 2, 1) := dk_61 (dk_at dksX5_finds_7 2 rfl rfl)
theorem dX5_finds_170 : decode cX5_finds 170 = .ok (.iload 10, 2) := dk_21 10 (dk_at dksX5_finds_7 3 rfl rfl)
theorem dX5_finds_172 : decode cX5_finds 172 = .ok (.istore_n 3, 1) := dk_62 (dk_at dksX5_finds_7 5 rfl rfl)
theorem dX5_finds_173 : decode cX5_finds 173 = .ok (.aload_n 0, 1) := dk_42 (dk_at dksX5_finds_7 6 rfl rfl)
theorem dX5_finds_174 : decode cX5_finds 174 = .ok (.getfield 7, 3) := dk_180 0 7 (dk_at dksX5_finds_7 7 rfl rfl)
theorem dX5_finds_177 : decode cX5_finds 177 = .ok (.iload 9, 2) := dk_21 9 (dk_at dksX5_finds_7 10 rfl rfl)
theorem dX5_finds_179 : decode cX5_finds 179 = .ok (.iconst 3, 1) := dk_6 (dk_at dksX5_finds_7 12 rfl rfl)
theorem dX5_finds_180 : decode cX5_finds 180 = .ok (.iadd, 1) := dk_96 (dk_at dksX5_finds_7 13 rfl rfl)
theorem dX5_finds_181 : decode cX5_finds 181 = .ok (.iaload, 1) := dk_46 (dk_at dksX5_finds_7 14 rfl rfl)
theorem dX5_finds_182 : decode cX5_finds 182 = .ok (.iconst 1, 1) := dk_4 (dk_at dksX5_finds_7 15 rfl rfl)
theorem dX5_finds_183 : decode cX5_finds 183 = .ok (.iadd, 1) := dk_96 (dk_at dksX5_finds_7 16 rfl rfl)
theorem dX5_finds_184 : decode cX5_finds 184 = .ok (.istore 4, 2) := dk_54 4 (dk_at dksX5_finds_7 17 rfl rfl)
theorem dX5_finds_186 : decode cX5_finds 186 = .ok (.iload 7, 2) := dk_21 7 (dk_at dksX5_finds_7 19 rfl rfl)
theorem dX5_finds_188 : decode cX5_finds 188 = .ok (.istore 5, 2) := dk_54 5 (dk_at dksX5_finds_7 21 rfl rfl)
theorem dX5_finds_190 : decode cX5_finds 190 = .ok (.iload 11, 2) := dk_21 11 (dk_at dksX5_finds_8 0 rfl rfl)
theorem dX5_finds_192 : decode cX5_finds 192 = .ok (.istore 6, 2) := dk_54 6 (dk_at dksX5_finds_8 2 rfl rfl)
theorem dX5_finds_194 : decode cX5_finds 194 = .ok (.iinc 7 1, 3) := dk_132 7 1 (dk_at dksX5_finds_8 4 rfl rfl)
theorem dX5_finds_197 : decode cX5_finds 197 = .ok (.goto (-173), 3) := dk_167 255 83 (dk_at dksX5_finds_8 7 rfl rfl)
theorem dX5_finds_200 : decode cX5_finds 200 = .ok (.aload_n 0, 1) := dk_42 (dk_at dksX5_finds_8 10 rfl rfl)
theorem dX5_finds_201 : decode cX5_finds 201 = .ok (.getfield 22, 3) := dk_180 0 22 (dk_at dksX5_finds_8 11 rfl rfl)
theorem dX5_finds_204 : decode cX5_finds 204 = .ok (.iconst 4, 1) := dk_7 (dk_at dksX5_finds_8 14 rfl rfl)
theorem dX5_finds_205 : decode cX5_finds 205 = .ok (.iload_n 1, 1) := dk_27 (dk_at dksX5_finds_8 15 rfl rfl)
theorem dX5_finds_206 : decode cX5_finds 206 = .ok (.imul, 1) := dk_104 (dk_at dksX5_finds_8 16 rfl rfl)
theorem dX5_finds_207 : decode cX5_finds 207 = .ok (.iload_n 2, 1) := dk_28 (dk_at dksX5_finds_8 17 rfl rfl)
theorem dX5_finds_208 : decode cX5_finds 208 = .ok (.iastore, 1) := dk_79 (dk_at dksX5_finds_8 18 rfl rfl)
theorem dX5_finds_209 : decode cX5_finds 209 = .ok (.aload_n 0, 1) := dk_42 (dk_at dksX5_finds_8 19 rfl rfl)
theorem dX5_finds_210 : decode cX5_finds 210 = .ok (.getfield 22, 3) := dk_180 0 22 (dk_at dksX5_finds_8 20 rfl rfl)
theorem dX5_finds_213 : decode cX5_finds 213 = .ok (.iconst 4, 1) := dk_7 (dk_at dksX5_finds_8 23 rfl rfl)
theorem dX5_finds_214 : decode cX5_finds 214 = .ok (.iload_n 1, 1) := dk_27 (dk_at dksX5_finds_9 0 rfl rfl)
theorem dX5_finds_215 : decode cX5_finds 215 = .ok (.imul, 1) := dk_104 (dk_at dksX5_finds_9 1 rfl rfl)
theorem dX5_finds_216 : decode cX5_finds 216 = .ok (.iconst 1, 1) := dk_4 (dk_at dksX5_finds_9 2 rfl rfl)
theorem dX5_finds_217 : decode cX5_finds 217 = .ok (.iadd, 1) := dk_96 (dk_at dksX5_finds_9 3 rfl rfl)
theorem dX5_finds_218 : decode cX5_finds 218 = .ok (.iload_n 3, 1) := dk_29 (dk_at dksX5_finds_9 4 rfl rfl)
theorem dX5_finds_219 : decode cX5_finds 219 = .ok (.iastore, 1) := dk_79 (dk_at dksX5_finds_9 5 rfl rfl)
theorem dX5_finds_220 : decode cX5_finds 220 = .ok (.aload_n 0, 1) := dk_42 (dk_at dksX5_finds_9 6 rfl rfl)
theorem dX5_finds_221 : decode cX5_finds 221 = .ok (.getfield 22, 3) := dk_180 0 22 (dk_at dksX5_finds_9 7 rfl rfl)
theorem dX5_finds_224 : decode cX5_finds 224 = .ok (.iconst 4, 1) := dk_7 (dk_at dksX5_finds_9 10 rfl rfl)
theorem dX5_finds_225 : decode cX5_finds 225 = .ok (.iload_n 1, 1) := dk_27 (dk_at dksX5_finds_9 11 rfl rfl)
theorem dX5_finds_226 : decode cX5_finds 226 = .ok (.imul, 1) := dk_104 (dk_at dksX5_finds_9 12 rfl rfl)
theorem dX5_finds_227 : decode cX5_finds 227 = .ok (.iconst 2, 1) := dk_5 (dk_at dksX5_finds_9 13 rfl rfl)
theorem dX5_finds_228 : decode cX5_finds 228 = .ok (.iadd, 1) := dk_96 (dk_at dksX5_finds_9 14 rfl rfl)
theorem dX5_finds_229 : decode cX5_finds 229 = .ok (.iload 4, 2) := dk_21 4 (dk_at dksX5_finds_9 15 rfl rfl)
theorem dX5_finds_231 : decode cX5_finds 231 = .ok (.iastore, 1) := dk_79 (dk_at dksX5_finds_9 17 rfl rfl)
theorem dX5_finds_232 : decode cX5_finds 232 = .ok (.aload_n 0, 1) := dk_42 (dk_at dksX5_finds_9 18 rfl rfl)
theorem dX5_finds_233 : decode cX5_finds 233 = .ok (.getfield 22, 3) := dk_180 0 22 (dk_at dksX5_finds_9 19 rfl rfl)
theorem dX5_finds_236 : decode cX5_finds 236 = .ok (.iconst 4, 1) := dk_7 (dk_at dksX5_finds_9 22 rfl rfl)
theorem dX5_finds_237 : decode cX5_finds 237 = .ok (.iload_n 1, 1) := dk_27 (dk_at dksX5_finds_9 23 rfl rfl)
theorem dX5_finds_238 : decode cX5_finds 238 = .ok (.imul, 1) := dk_104 (dk_at dksX5_finds_10 0 rfl rfl)
theorem dX5_finds_239 : decode cX5_finds 239 = .ok (.iconst 3, 1) := dk_6 (dk_at dksX5_finds_10 1 rfl rfl)
theorem dX5_finds_240 : decode cX5_finds 240 = .ok (.iadd, 1) := dk_96 (dk_at dksX5_finds_10 2 rfl rfl)
theorem dX5_finds_241 : decode cX5_finds 241 = .ok (.iload 5, 2) := dk_21 5 (dk_at dksX5_finds_10 3 rfl rfl)
theorem dX5_finds_243 : decode cX5_finds 243 = .ok (.iastore, 1) := dk_79 (dk_at dksX5_finds_10 5 rfl rfl)
theorem dX5_finds_244 : decode cX5_finds 244 = .ok (.return_, 1) := dk_177 (dk_at dksX5_finds_10 6 rfl rfl)
abbrev cX5_other : ByteArray := prog_11_method_18_code
def yX5_other : MethodName := ⟨RX5, "other", "(II)I"⟩
def dkwX5_other_1 : List UInt8 := [182, 0, 62, 172]
abbrev dktX5_other_1 : List UInt8 := dkwX5_other_1 ++ []
def dkwX5_other_0 : List UInt8 := [42, 27, 3, 182, 0, 62, 28, 160, 0, 12, 42, 27, 4, 182, 0, 62, 167, 0, 9, 42, 27, 3]
abbrev dktX5_other_0 : List UInt8 := dkwX5_other_0 ++ dktX5_other_1
theorem dksX5_other_0 : cX5_other.data.toList.drop 0 = dktX5_other_0 := by decide +kernel
theorem dksX5_other_1 : cX5_other.data.toList.drop 22 = dktX5_other_1 := dk_seg dksX5_other_0 22 rfl rfl
theorem dX5_other_0 : decode cX5_other 0 = .ok (.aload_n 0, 1) := dk_42 (dk_at dksX5_other_0 0 rfl rfl)
theorem dX5_other_1 : decode cX5_other 1 = .ok (.iload_n 1, 1) := dk_27 (dk_at dksX5_other_0 1 rfl rfl)
theorem dX5_other_2 : decode cX5_other 2 = .ok (.iconst 0, 1) := dk_3 (dk_at dksX5_other_0 2 rfl rfl)
theorem dX5_other_3 : decode cX5_other 3 = .ok (.invokevirtual 62, 3) := dk_182 0 62 (dk_at dksX5_other_0 3 rfl rfl)
theorem dX5_other_6 : decode cX5_other 6 = .ok (.iload_n 2, 1) := dk_28 (dk_at dksX5_other_0 6 rfl rfl)
theorem dX5_other_7 : decode cX5_other 7 = .ok (.if_icmp .ne 12, 3) := dk_160 0 12 (dk_at dksX5_other_0 7 rfl rfl)
theorem dX5_other_10 : decode cX5_other 10 = .ok (.aload_n 0, 1) := dk_42 (dk_at dksX5_other_0 10 rfl rfl)
theorem dX5_other_11 : decode cX5_other 11 = .ok (.iload_n 1, 1) := dk_27 (dk_at dksX5_other_0 11 rfl rfl)
theorem dX5_other_12 : decode cX5_other 12 = .ok (.iconst 1, 1) := dk_4 (dk_at dksX5_other_0 12 rfl rfl)
theorem dX5_other_13 : decode cX5_other 13 = .ok (.invokevirtual 62, 3) := dk_182 0 62 (dk_at dksX5_other_0 13 rfl rfl)
theorem dX5_other_16 : decode cX5_other 16 = .ok (.goto 9, 3) := dk_167 0 9 (dk_at dksX5_other_0 16 rfl rfl)
theorem dX5_other_19 : decode cX5_other 19 = .ok (.aload_n 0, 1) := dk_42 (dk_at dksX5_other_0 19 rfl rfl)
theorem dX5_other_20 : decode cX5_other 20 = .ok (.iload_n 1, 1) := dk_27 (dk_at dksX5_other_0 20 rfl rfl)
theorem dX5_other_21 : decode cX5_other 21 = .ok (.iconst 0, 1) := dk_3 (dk_at dksX5_other_0 21 rfl rfl)
theorem dX5_other_22 : decode cX5_other 22 = .ok (.invokevirtual 62, 3) := dk_182 0 62 (dk_at dksX5_other_1 0 rfl rfl)
theorem dX5_other_25 : decode cX5_other 25 = .ok (.ireturn, 1) := dk_172 (dk_at dksX5_other_1 3 rfl rfl)
abbrev cX5_isAt : ByteArray := prog_11_method_19_code
def yX5_isAt : MethodName := ⟨RX5, "isAt", "(II)Z"⟩
def dkwX5_isAt_1 : List UInt8 := [3, 172]
abbrev dktX5_isAt_1 : List UInt8 := dkwX5_isAt_1 ++ []
def dkwX5_isAt_0 : List UInt8 := [42, 27, 3, 182, 0, 62, 28, 159, 0, 13, 42, 27, 4, 182, 0, 62, 28, 160, 0, 7, 4, 167, 0, 4]
abbrev dktX5_isAt_0 : List UInt8 := dkwX5_isAt_0 ++ dktX5_isAt_1
theorem dksX5_isAt_0 : cX5_isAt.data.toList.drop 0 = dktX5_isAt_0 := by decide +kernel
theorem dksX5_isAt_1 : cX5_isAt.data.toList.drop 24 = dktX5_isAt_1 := dk_seg dksX5_isAt_0 24 rfl rfl
theorem dX5_isAt_0 : decode cX5_isAt 0 = .ok (.aload_n 0, 1) := dk_42 (dk_at dksX5_isAt_0 0 rfl rfl)
theorem dX5_isAt_1 : decode cX5_isAt 1 = .ok (.iload_n 1, 1) := dk_27 (dk_at dksX5_isAt_0 1 rfl rfl)
theorem dX5_isAt_2 : decode cX5_isAt 2 = .ok (.iconst 0, 1) := dk_3 (dk_at dksX5_isAt_0 2 rfl rfl)
theorem dX5_isAt_3 : decode cX5_isAt 3 = .ok (.invokevirtual 62, 3) := dk_182 0 62 (dk_at dksX5_isAt_0 3 rfl rfl)
theorem dX5_isAt_6 : decode cX5_isAt 6 = .ok (.iload_n 2, 1) := dk_28 (dk_at dksX5_isAt_0 6 rfl rfl)
theorem dX5_isAt_7 : decode cX5_isAt 7 = .ok (.if_icmp .eq 13, 3) := dk_159 0 13 (dk_at dksX5_isAt_0 7 rfl rfl)
theorem dX5_isAt_10 : decode cX5_isAt 10 = .ok (.aload_n 0, 1) := dk_42 (dk_at dksX5_isAt_0 10 rfl rfl)
theorem dX5_isAt_11 : decode cX5_isAt 11 = .ok (.iload_n 1, 1) := dk_27 (dk_at dksX5_isAt_0 11 rfl rfl)
theorem dX5_isAt_12 : decode cX5_isAt 12 = .ok (.iconst 1, 1) := dk_4 (dk_at dksX5_isAt_0 12 rfl rfl)
theorem dX5_isAt_13 : decode cX5_isAt 13 = .ok (.invokevirtual 62, 3) := dk_182 0 62 (dk_at dksX5_isAt_0 13 rfl rfl)
theorem dX5_isAt_16 : decode cX5_isAt 16 = .ok (.iload_n 2, 1) := dk_28 (dk_at dksX5_isAt_0 16 rfl rfl)
theorem dX5_isAt_17 : decode cX5_isAt 17 = .ok (.if_icmp .ne 7, 3) := dk_160 0 7 (dk_at dksX5_isAt_0 17 rfl rfl)
theorem dX5_isAt_20 : decode cX5_isAt 20 = .ok (.iconst 1, 1) := dk_4 (dk_at dksX5_isAt_0 20 rfl rfl)
theorem dX5_isAt_21 : decode cX5_isAt 21 = .ok (.goto 4, 3) := dk_167 0 4 (dk_at dksX5_isAt_0 21 rfl rfl)
theorem dX5_isAt_24 : decode cX5_isAt 24 = .ok (.iconst 0, 1) := dk_3 (dk_at dksX5_isAt_1 0 rfl rfl)
theorem dX5_isAt_25 : decode cX5_isAt 25 = .ok (.ireturn, 1) := dk_172 (dk_at dksX5_isAt_1 1 rfl rfl)
abbrev cX5_ports : ByteArray := prog_11_method_51_code
def yX5_ports : MethodName := ⟨RX5, "ports", "()V"⟩
def dkwX5_ports_5 : List UInt8 := [4, 160, 0, 8, 42, 29, 182, 0, 59, 132, 3, 1, 167, 255, 229, 177]
abbrev dktX5_ports_5 : List UInt8 := dkwX5_ports_5 ++ []
def dkwX5_ports_4 : List UInt8 := [61, 132, 3, 1, 167, 255, 222, 3, 62, 29, 42, 180, 0, 7, 3, 46, 162, 0, 23, 28, 29, 122, 4, 126]
abbrev dktX5_ports_4 : List UInt8 := dkwX5_ports_4 ++ dktX5_ports_5
def dkwX5_ports_3 : List UInt8 := [46, 162, 0, 30, 28, 27, 29, 122, 4, 126, 4, 160, 0, 11, 42, 29, 182, 0, 164, 167, 0, 4, 3, 128]
abbrev dktX5_ports_3 : List UInt8 := dkwX5_ports_3 ++ dktX5_ports_4
def dkwX5_ports_2 : List UInt8 := [5, 112, 182, 0, 62, 120, 128, 60, 132, 2, 1, 167, 255, 202, 3, 61, 3, 62, 29, 42, 180, 0, 7, 3]
abbrev dktX5_ports_2 : List UInt8 := dkwX5_ports_2 ++ dktX5_ports_3
def dkwX5_ports_1 : List UInt8 := [182, 0, 161, 153, 0, 29, 42, 180, 0, 7, 16, 7, 92, 46, 4, 96, 79, 27, 4, 42, 28, 5, 108, 28]
abbrev dktX5_ports_1 : List UInt8 := dkwX5_ports_1 ++ dktX5_ports_2
def dkwX5_ports_0 : List UInt8 := [3, 60, 3, 61, 28, 5, 42, 180, 0, 7, 8, 46, 104, 162, 0, 48, 42, 28, 5, 108, 28, 5, 112]
abbrev dktX5_ports_0 : List UInt8 := dkwX5_ports_0 ++ dktX5_ports_1
theorem dksX5_ports_0 : cX5_ports.data.toList.drop 0 = dktX5_ports_0 := by decide +kernel
theorem dksX5_ports_1 : cX5_ports.data.toList.drop 23 = dktX5_ports_1 := dk_seg dksX5_ports_0 23 rfl rfl
theorem dksX5_ports_2 : cX5_ports.data.toList.drop 47 = dktX5_ports_2 := dk_seg dksX5_ports_1 24 rfl rfl
theorem dksX5_ports_3 : cX5_ports.data.toList.drop 71 = dktX5_ports_3 := dk_seg dksX5_ports_2 24 rfl rfl
theorem dksX5_ports_4 : cX5_ports.data.toList.drop 95 = dktX5_ports_4 := dk_seg dksX5_ports_3 24 rfl rfl
theorem dksX5_ports_5 : cX5_ports.data.toList.drop 119 = dktX5_ports_5 := dk_seg dksX5_ports_4 24 rfl rfl
theorem dX5_ports_0 : decode cX5_ports 0 = .ok (.iconst 0, 1) := dk_3 (dk_at dksX5_ports_0 0 rfl rfl)
theorem dX5_ports_1 : decode cX5_ports 1 = .ok (.istore_n 1, 1) := dk_60 (dk_at dksX5_ports_0 1 rfl rfl)
theorem dX5_ports_2 : decode cX5_ports 2 = .ok (.iconst 0, 1) := dk_3 (dk_at dksX5_ports_0 2 rfl rfl)
theorem dX5_ports_3 : decode cX5_ports 3 = .ok (.istore_n 2, 1) := dk_61 (dk_at dksX5_ports_0 3 rfl rfl)
theorem dX5_ports_4 : decode cX5_ports 4 = .ok (.iload_n 2, 1) := dk_28 (dk_at dksX5_ports_0 4 rfl rfl)
theorem dX5_ports_5 : decode cX5_ports 5 = .ok (.iconst 2, 1) := dk_5 (dk_at dksX5_ports_0 5 rfl rfl)
theorem dX5_ports_6 : decode cX5_ports 6 = .ok (.aload_n 0, 1) := dk_42 (dk_at dksX5_ports_0 6 rfl rfl)
theorem dX5_ports_7 : decode cX5_ports 7 = .ok (.getfield 7, 3) := dk_180 0 7 (dk_at dksX5_ports_0 7 rfl rfl)
theorem dX5_ports_10 : decode cX5_ports 10 = .ok (.iconst 5, 1) := dk_8 (dk_at dksX5_ports_0 10 rfl rfl)
theorem dX5_ports_11 : decode cX5_ports 11 = .ok (.iaload, 1) := dk_46 (dk_at dksX5_ports_0 11 rfl rfl)
theorem dX5_ports_12 : decode cX5_ports 12 = .ok (.imul, 1) := dk_104 (dk_at dksX5_ports_0 12 rfl rfl)
theorem dX5_ports_13 : decode cX5_ports 13 = .ok (.if_icmp .ge 48, 3) := dk_162 0 48 (dk_at dksX5_ports_0 13 rfl rfl)
theorem dX5_ports_16 : decode cX5_ports 16 = .ok (.aload_n 0, 1) := dk_42 (dk_at dksX5_ports_0 16 rfl rfl)
theorem dX5_ports_17 : decode cX5_ports 17 = .ok (.iload_n 2, 1) := dk_28 (dk_at dksX5_ports_0 17 rfl rfl)
theorem dX5_ports_18 : decode cX5_ports 18 = .ok (.iconst 2, 1) := dk_5 (dk_at dksX5_ports_0 18 rfl rfl)
theorem dX5_ports_19 : decode cX5_ports 19 = .ok (.idiv, 1) := dk_108 (dk_at dksX5_ports_0 19 rfl rfl)
theorem dX5_ports_20 : decode cX5_ports 20 = .ok (.iload_n 2, 1) := dk_28 (dk_at dksX5_ports_0 20 rfl rfl)
theorem dX5_ports_21 : decode cX5_ports 21 = .ok (.iconst 2, 1) := dk_5 (dk_at dksX5_ports_0 21 rfl rfl)
theorem dX5_ports_22 : decode cX5_ports 22 = .ok (.irem, 1) := dk_112 (dk_at dksX5_ports_0 22 rfl rfl)
theorem dX5_ports_23 : decode cX5_ports 23 = .ok (.invokevirtual 161, 3) := dk_182 0 161 (dk_at dksX5_ports_1 0 rfl rfl)
theorem dX5_ports_26 : decode cX5_ports 26 = .ok (.ifCond .eq 29, 3) := dk_153 0 29 (dk_at dksX5_ports_1 3 rfl rfl)
theorem dX5_ports_29 : decode cX5_ports 29 = .ok (.aload_n 0, 1) := dk_42 (dk_at dksX5_ports_1 6 rfl rfl)
theorem dX5_ports_30 : decode cX5_ports 30 = .ok (.getfield 7, 3) := dk_180 0 7 (dk_at dksX5_ports_1 7 rfl rfl)
theorem dX5_ports_33 : decode cX5_ports 33 = .ok (.bipush 7, 2) := dk_16 7 (dk_at dksX5_ports_1 10 rfl rfl)
theorem dX5_ports_35 : decode cX5_ports 35 = .ok (.dup2, 1) := dk_92 (dk_at dksX5_ports_1 12 rfl rfl)
theorem dX5_ports_36 : decode cX5_ports 36 = .ok (.iaload, 1) := dk_46 (dk_at dksX5_ports_1 13 rfl rfl)
theorem dX5_ports_37 : decode cX5_ports 37 = .ok (.iconst 1, 1) := dk_4 (dk_at dksX5_ports_1 14 rfl rfl)
theorem dX5_ports_38 : decode cX5_ports 38 = .ok (.iadd, 1) := dk_96 (dk_at dksX5_ports_1 15 rfl rfl)
theorem dX5_ports_39 : decode cX5_ports 39 = .ok (.iastore, 1) := dk_79 (dk_at dksX5_ports_1 16 rfl rfl)
theorem dX5_ports_40 : decode cX5_ports 40 = .ok (.iload_n 1, 1) := dk_27 (dk_at dksX5_ports_1 17 rfl rfl)
theorem dX5_ports_41 : decode cX5_ports 41 = .ok (.iconst 1, 1) := dk_4 (dk_at dksX5_ports_1 18 rfl rfl)
theorem dX5_ports_42 : decode cX5_ports 42 = .ok (.aload_n 0, 1) := dk_42 (dk_at dksX5_ports_1 19 rfl rfl)
theorem dX5_ports_43 : decode cX5_ports 43 = .ok (.iload_n 2, 1) := dk_28 (dk_at dksX5_ports_1 20 rfl rfl)
theorem dX5_ports_44 : decode cX5_ports 44 = .ok (.iconst 2, 1) := dk_5 (dk_at dksX5_ports_1 21 rfl rfl)
theorem dX5_ports_45 : decode cX5_ports 45 = .ok (.idiv, 1) := dk_108 (dk_at dksX5_ports_1 22 rfl rfl)
theorem dX5_ports_46 : decode cX5_ports 46 = .ok (.iload_n 2, 1) := dk_28 (dk_at dksX5_ports_1 23 rfl rfl)
theorem dX5_ports_47 : decode cX5_ports 47 = .ok (.iconst 2, 1) := dk_5 (dk_at dksX5_ports_2 0 rfl rfl)
theorem dX5_ports_48 : decode cX5_ports 48 = .ok (.irem, 1) := dk_112 (dk_at dksX5_ports_2 1 rfl rfl)
theorem dX5_ports_49 : decode cX5_ports 49 = .ok (.invokevirtual 62, 3) := dk_182 0 62 (dk_at dksX5_ports_2 2 rfl rfl)
theorem dX5_ports_52 : decode cX5_ports 52 = .ok (.ishl, 1) := dk_120 (dk_at dksX5_ports_2 5 rfl rfl)
theorem dX5_ports_53 : decode cX5_ports 53 = .ok (.ior, 1) := dk_128 (dk_at dksX5_ports_2 6 rfl rfl)
theorem dX5_ports_54 : decode cX5_ports 54 = .ok (.istore_n 1, 1) := dk_60 (dk_at dksX5_ports_2 7 rfl rfl)
theorem dX5_ports_55 : decode cX5_ports 55 = .ok (.iinc 2 1, 3) := dk_132 2 1 (dk_at dksX5_ports_2 8 rfl rfl)
theorem dX5_ports_58 : decode cX5_ports 58 = .ok (.goto (-54), 3) := dk_167 255 202 (dk_at dksX5_ports_2 11 rfl rfl)
theorem dX5_ports_61 : decode cX5_ports 61 = .ok (.iconst 0, 1) := dk_3 (dk_at dksX5_ports_2 14 rfl rfl)
theorem dX5_ports_62 : decode cX5_ports 62 = .ok (.istore_n 2, 1) := dk_61 (dk_at dksX5_ports_2 15 rfl rfl)
theorem dX5_ports_63 : decode cX5_ports 63 = .ok (.iconst 0, 1) := dk_3 (dk_at dksX5_ports_2 16 rfl rfl)
theorem dX5_ports_64 : decode cX5_ports 64 = .ok (.istore_n 3, 1) := dk_62 (dk_at dksX5_ports_2 17 rfl rfl)
theorem dX5_ports_65 : decode cX5_ports 65 = .ok (.iload_n 3, 1) := dk_29 (dk_at dksX5_ports_2 18 rfl rfl)
theorem dX5_ports_66 : decode cX5_ports 66 = .ok (.aload_n 0, 1) := dk_42 (dk_at dksX5_ports_2 19 rfl rfl)
theorem dX5_ports_67 : decode cX5_ports 67 = .ok (.getfield 7, 3) := dk_180 0 7 (dk_at dksX5_ports_2 20 rfl rfl)
theorem dX5_ports_70 : decode cX5_ports 70 = .ok (.iconst 0, 1) := dk_3 (dk_at dksX5_ports_2 23 rfl rfl)
theorem dX5_ports_71 : decode cX5_ports 71 = .ok (.iaload, 1) := dk_46 (dk_at dksX5_ports_3 0 rfl rfl)
theorem dX5_ports_72 : decode cX5_ports 72 = .ok (.if_icmp .ge 30, 3) := dk_162 0 30 (dk_at dksX5_ports_3 1 rfl rfl)
theorem dX5_ports_75 : decode cX5_ports 75 = .ok (.iload_n 2, 1) := dk_28 (dk_at dksX5_ports_3 4 rfl rfl)
theorem dX5_ports_76 : decode cX5_ports 76 = .ok (.iload_n 1, 1) := dk_27 (dk_at dksX5_ports_3 5 rfl rfl)
theorem dX5_ports_77 : decode cX5_ports 77 = .ok (.iload_n 3, 1) := dk_29 (dk_at dksX5_ports_3 6 rfl rfl)
theorem dX5_ports_78 : decode cX5_ports 78 = .ok (.ishr, 1) := dk_122 (dk_at dksX5_ports_3 7 rfl rfl)
theorem dX5_ports_79 : decode cX5_ports 79 = .ok (.iconst 1, 1) := dk_4 (dk_at dksX5_ports_3 8 rfl rfl)
theorem dX5_ports_80 : decode cX5_ports 80 = .ok (.iand, 1) := dk_126 (dk_at dksX5_ports_3 9 rfl rfl)
theorem dX5_ports_81 : decode cX5_ports 81 = .ok (.iconst 1, 1) := dk_4 (dk_at dksX5_ports_3 10 rfl rfl)
theorem dX5_ports_82 : decode cX5_ports 82 = .ok (.if_icmp .ne 11, 3) := dk_160 0 11 (dk_at dksX5_ports_3 11 rfl rfl)
theorem dX5_ports_85 : decode cX5_ports 85 = .ok (.aload_n 0, 1) := dk_42 (dk_at dksX5_ports_3 14 rfl rfl)
theorem dX5_ports_86 : decode cX5_ports 86 = .ok (.iload_n 3, 1) := dk_29 (dk_at dksX5_ports_3 15 rfl rfl)
theorem dX5_ports_87 : decode cX5_ports 87 = .ok (.invokevirtual 164, 3) := dk_182 0 164 (dk_at dksX5_ports_3 16 rfl rfl)
theorem dX5_ports_90 : decode cX5_ports 90 = .ok (.goto 4, 3) := dk_167 0 4 (dk_at dksX5_ports_3 19 rfl rfl)
theorem dX5_ports_93 : decode cX5_ports 93 = .ok (.iconst 0, 1) := dk_3 (dk_at dksX5_ports_3 22 rfl rfl)
theorem dX5_ports_94 : decode cX5_ports 94 = .ok (.ior, 1) := dk_128 (dk_at dksX5_ports_3 23 rfl rfl)
theorem dX5_ports_95 : decode cX5_ports 95 = .ok (.istore_n 2, 1) := dk_61 (dk_at dksX5_ports_4 0 rfl rfl)
theorem dX5_ports_96 : decode cX5_ports 96 = .ok (.iinc 3 1, 3) := dk_132 3 1 (dk_at dksX5_ports_4 1 rfl rfl)
theorem dX5_ports_99 : decode cX5_ports 99 = .ok (.goto (-34), 3) := dk_167 255 222 (dk_at dksX5_ports_4 4 rfl rfl)
theorem dX5_ports_102 : decode cX5_ports 102 = .ok (.iconst 0, 1) := dk_3 (dk_at dksX5_ports_4 7 rfl rfl)
theorem dX5_ports_103 : decode cX5_ports 103 = .ok (.istore_n 3, 1) := dk_62 (dk_at dksX5_ports_4 8 rfl rfl)
theorem dX5_ports_104 : decode cX5_ports 104 = .ok (.iload_n 3, 1) := dk_29 (dk_at dksX5_ports_4 9 rfl rfl)
theorem dX5_ports_105 : decode cX5_ports 105 = .ok (.aload_n 0, 1) := dk_42 (dk_at dksX5_ports_4 10 rfl rfl)
theorem dX5_ports_106 : decode cX5_ports 106 = .ok (.getfield 7, 3) := dk_180 0 7 (dk_at dksX5_ports_4 11 rfl rfl)
theorem dX5_ports_109 : decode cX5_ports 109 = .ok (.iconst 0, 1) := dk_3 (dk_at dksX5_ports_4 14 rfl rfl)
theorem dX5_ports_110 : decode cX5_ports 110 = .ok (.iaload, 1) := dk_46 (dk_at dksX5_ports_4 15 rfl rfl)
theorem dX5_ports_111 : decode cX5_ports 111 = .ok (.if_icmp .ge 23, 3) := dk_162 0 23 (dk_at dksX5_ports_4 16 rfl rfl)
theorem dX5_ports_114 : decode cX5_ports 114 = .ok (.iload_n 2, 1) := dk_28 (dk_at dksX5_ports_4 19 rfl rfl)
theorem dX5_ports_115 : decode cX5_ports 115 = .ok (.iload_n 3, 1) := dk_29 (dk_at dksX5_ports_4 20 rfl rfl)
theorem dX5_ports_116 : decode cX5_ports 116 = .ok (.ishr, 1) := dk_122 (dk_at dksX5_ports_4 21 rfl rfl)
theorem dX5_ports_117 : decode cX5_ports 117 = .ok (.iconst 1, 1) := dk_4 (dk_at dksX5_ports_4 22 rfl rfl)
theorem dX5_ports_118 : decode cX5_ports 118 = .ok (.iand, 1) := dk_126 (dk_at dksX5_ports_4 23 rfl rfl)
theorem dX5_ports_119 : decode cX5_ports 119 = .ok (.iconst 1, 1) := dk_4 (dk_at dksX5_ports_5 0 rfl rfl)
theorem dX5_ports_120 : decode cX5_ports 120 = .ok (.if_icmp .ne 8, 3) := dk_160 0 8 (dk_at dksX5_ports_5 1 rfl rfl)
theorem dX5_ports_123 : decode cX5_ports 123 = .ok (.aload_n 0, 1) := dk_42 (dk_at dksX5_ports_5 4 rfl rfl)
theorem dX5_ports_124 : decode cX5_ports 124 = .ok (.iload_n 3, 1) := dk_29 (dk_at dksX5_ports_5 5 rfl rfl)
theorem dX5_ports_125 : decode cX5_ports 125 = .ok (.invokevirtual 59, 3) := dk_182 0 59 (dk_at dksX5_ports_5 6 rfl rfl)
theorem dX5_ports_128 : decode cX5_ports 128 = .ok (.iinc 3 1, 3) := dk_132 3 1 (dk_at dksX5_ports_5 9 rfl rfl)
theorem dX5_ports_131 : decode cX5_ports 131 = .ok (.goto (-27), 3) := dk_167 255 229 (dk_at dksX5_ports_5 12 rfl rfl)
theorem dX5_ports_134 : decode cX5_ports 134 = .ok (.return_, 1) := dk_177 (dk_at dksX5_ports_5 15 rfl rfl)
abbrev cX5_goesOn : ByteArray := prog_11_method_50_code
def yX5_goesOn : MethodName := ⟨RX5, "goesOn", "(II)Z"⟩
def dkwX5_goesOn_8 : List UInt8 := [6, 160, 0, 7, 4, 167, 0, 4, 3, 159, 0, 7, 4, 167, 0, 4, 3, 172]
abbrev dktX5_goesOn_8 : List UInt8 := dkwX5_goesOn_8 ++ []
def dkwX5_goesOn_7 : List UInt8 := [167, 0, 4, 3, 79, 21, 4, 6, 160, 0, 7, 4, 167, 0, 4, 3, 42, 180, 0, 7, 29, 4, 96, 46]
abbrev dktX5_goesOn_7 : List UInt8 := dkwX5_goesOn_7 ++ dktX5_goesOn_8
def dkwX5_goesOn_6 : List UInt8 := [4, 96, 79, 42, 180, 0, 7, 29, 5, 96, 21, 4, 4, 160, 0, 12, 42, 180, 0, 7, 5, 46]
abbrev dktX5_goesOn_6 : List UInt8 := dkwX5_goesOn_6 ++ dktX5_goesOn_7
def dkwX5_goesOn_5 : List UInt8 := [46, 4, 100, 79, 42, 180, 0, 7, 29, 5, 96, 46, 154, 0, 39, 42, 180, 0, 7, 29, 4, 96, 21, 4]
abbrev dktX5_goesOn_5 : List UInt8 := dkwX5_goesOn_5 ++ dktX5_goesOn_6
def dkwX5_goesOn_4 : List UInt8 := [42, 180, 0, 7, 5, 46, 79, 167, 0, 68, 21, 4, 6, 159, 0, 62, 42, 180, 0, 7, 29, 5, 96, 92]
abbrev dktX5_goesOn_4 : List UInt8 := dkwX5_goesOn_4 ++ dktX5_goesOn_5
def dkwX5_goesOn_3 : List UInt8 := [167, 0, 99, 21, 4, 154, 0, 29, 42, 180, 0, 7, 29, 4, 96, 4, 79, 42, 180, 0, 7, 29, 5, 96]
abbrev dktX5_goesOn_3 : List UInt8 := dkwX5_goesOn_3 ++ dktX5_goesOn_4
def dkwX5_goesOn_2 : List UInt8 := [46, 5, 160, 0, 24, 42, 180, 0, 7, 29, 4, 96, 3, 79, 42, 180, 0, 7, 29, 5, 96, 3, 79]
abbrev dktX5_goesOn_2 : List UInt8 := dkwX5_goesOn_2 ++ dktX5_goesOn_3
def dkwX5_goesOn_1 : List UInt8 := [54, 4, 42, 180, 0, 7, 29, 42, 27, 42, 27, 28, 182, 0, 62, 182, 0, 158, 79, 42, 180, 0, 7, 29]
abbrev dktX5_goesOn_1 : List UInt8 := dkwX5_goesOn_1 ++ dktX5_goesOn_2
def dkwX5_goesOn_0 : List UInt8 := [17, 0, 199, 16, 18, 27, 104, 96, 16, 8, 96, 6, 28, 104, 96, 62, 42, 180, 0, 7, 29, 4, 96, 46]
abbrev dktX5_goesOn_0 : List UInt8 := dkwX5_goesOn_0 ++ dktX5_goesOn_1
theorem dksX5_goesOn_0 : cX5_goesOn.data.toList.drop 0 = dktX5_goesOn_0 := by decide +kernel
theorem dksX5_goesOn_1 : cX5_goesOn.data.toList.drop 24 = dktX5_goesOn_1 := dk_seg dksX5_goesOn_0 24 rfl rfl
theorem dksX5_goesOn_2 : cX5_goesOn.data.toList.drop 48 = dktX5_goesOn_2 := dk_seg dksX5_goesOn_1 24 rfl rfl
theorem dksX5_goesOn_3 : cX5_goesOn.data.toList.drop 71 = dktX5_goesOn_3 := dk_seg dksX5_goesOn_2 23 rfl rfl
theorem dksX5_goesOn_4 : cX5_goesOn.data.toList.drop 95 = dktX5_goesOn_4 := dk_seg dksX5_goesOn_3 24 rfl rfl
theorem dksX5_goesOn_5 : cX5_goesOn.data.toList.drop 119 = dktX5_goesOn_5 := dk_seg dksX5_goesOn_4 24 rfl rfl
theorem dksX5_goesOn_6 : cX5_goesOn.data.toList.drop 143 = dktX5_goesOn_6 := dk_seg dksX5_goesOn_5 24 rfl rfl
theorem dksX5_goesOn_7 : cX5_goesOn.data.toList.drop 165 = dktX5_goesOn_7 := dk_seg dksX5_goesOn_6 22 rfl rfl
theorem dksX5_goesOn_8 : cX5_goesOn.data.toList.drop 189 = dktX5_goesOn_8 := dk_seg dksX5_goesOn_7 24 rfl rfl
theorem dX5_goesOn_0 : decode cX5_goesOn 0 = .ok (.sipush 199, 3) := dk_17 0 199 (dk_at dksX5_goesOn_0 0 rfl rfl)
theorem dX5_goesOn_3 : decode cX5_goesOn 3 = .ok (.bipush 18, 2) := dk_16 18 (dk_at dksX5_goesOn_0 3 rfl rfl)
theorem dX5_goesOn_5 : decode cX5_goesOn 5 = .ok (.iload_n 1, 1) := dk_27 (dk_at dksX5_goesOn_0 5 rfl rfl)
theorem dX5_goesOn_6 : decode cX5_goesOn 6 = .ok (.imul, 1) := dk_104 (dk_at dksX5_goesOn_0 6 rfl rfl)
theorem dX5_goesOn_7 : decode cX5_goesOn 7 = .ok (.iadd, 1) := dk_96 (dk_at dksX5_goesOn_0 7 rfl rfl)
theorem dX5_goesOn_8 : decode cX5_goesOn 8 = .ok (.bipush 8, 2) := dk_16 8 (dk_at dksX5_goesOn_0 8 rfl rfl)
theorem dX5_goesOn_10 : decode cX5_goesOn 10 = .ok (.iadd, 1) := dk_96 (dk_at dksX5_goesOn_0 10 rfl rfl)
theorem dX5_goesOn_11 : decode cX5_goesOn 11 = .ok (.iconst 3, 1) := dk_6 (dk_at dksX5_goesOn_0 11 rfl rfl)
theorem dX5_goesOn_12 : decode cX5_goesOn 12 = .ok (.iload_n 2, 1) := dk_28 (dk_at dksX5_goesOn_0 12 rfl rfl)
theorem dX5_goesOn_13 : decode cX5_goesOn 13 = .ok (.imul, 1) := dk_104 (dk_at dksX5_goesOn_0 13 rfl rfl)
theorem dX5_goesOn_14 : decode cX5_goesOn 14 = .ok (.iadd, 1) := dk_96 (dk_at dksX5_goesOn_0 14 rfl rfl)
theorem dX5_goesOn_15 : decode cX5_goesOn 15 = .ok (.istore_n 3, 1) := dk_62 (dk_at dksX5_goesOn_0 15 rfl rfl)
theorem dX5_goesOn_16 : decode cX5_goesOn 16 = .ok (.aload_n 0, 1) := dk_42 (dk_at dksX5_goesOn_0 16 rfl rfl)
theorem dX5_goesOn_17 : decode cX5_goesOn 17 = .ok (.getfield 7, 3) := dk_180 0 7 (dk_at dksX5_goesOn_0 17 rfl rfl)
theorem dX5_goesOn_20 : decode cX5_goesOn 20 = .ok (.iload_n 3, 1) := dk_29 (dk_at dksX5_goesOn_0 20 rfl rfl)
theorem dX5_goesOn_21 : decode cX5_goesOn 21 = .ok (.iconst 1, 1) := dk_4 (dk_at dksX5_goesOn_0 21 rfl rfl)
theorem dX5_goesOn_22 : decode cX5_goesOn 22 = .ok (.iadd, 1) := dk_96 (dk_at dksX5_goesOn_0 22 rfl rfl)
theorem dX5_goesOn_23 : decode cX5_goesOn 23 = .ok (.iaload, 1) := dk_46 (dk_at dksX5_goesOn_0 23 rfl rfl)
theorem dX5_goesOn_24 : decode cX5_goesOn 24 = .ok (.istore 4, 2) := dk_54 4 (dk_at dksX5_goesOn_1 0 rfl rfl)
theorem dX5_goesOn_26 : decode cX5_goesOn 26 = .ok (.aload_n 0, 1) := dk_42 (dk_at dksX5_goesOn_1 2 rfl rfl)
theorem dX5_goesOn_27 : decode cX5_goesOn 27 = .ok (.getfield 7, 3) := dk_180 0 7 (dk_at dksX5_goesOn_1 3 rfl rfl)
theorem dX5_goesOn_30 : decode cX5_goesOn 30 = .ok (.iload_n 3, 1) := dk_29 (dk_at dksX5_goesOn_1 6 rfl rfl)
theorem dX5_goesOn_31 : decode cX5_goesOn 31 = .ok (.aload_n 0, 1) := dk_42 (dk_at dksX5_goesOn_1 7 rfl rfl)
theorem dX5_goesOn_32 : decode cX5_goesOn 32 = .ok (.iload_n 1, 1) := dk_27 (dk_at dksX5_goesOn_1 8 rfl rfl)
theorem dX5_goesOn_33 : decode cX5_goesOn 33 = .ok (.aload_n 0, 1) := dk_42 (dk_at dksX5_goesOn_1 9 rfl rfl)
theorem dX5_goesOn_34 : decode cX5_goesOn 34 = .ok (.iload_n 1, 1) := dk_27 (dk_at dksX5_goesOn_1 10 rfl rfl)
theorem dX5_goesOn_35 : decode cX5_goesOn 35 = .ok (.iload_n 2, 1) := dk_28 (dk_at dksX5_goesOn_1 11 rfl rfl)
theorem dX5_goesOn_36 : decode cX5_goesOn 36 = .ok (.invokevirtual 62, 3) := dk_182 0 62 (dk_at dksX5_goesOn_1 12 rfl rfl)
theorem dX5_goesOn_39 : decode cX5_goesOn 39 = .ok (.invokevirtual 158, 3) := dk_182 0 158 (dk_at dksX5_goesOn_1 15 rfl rfl)
theorem dX5_goesOn_42 : decode cX5_goesOn 42 = .ok (.iastore, 1) := dk_79 (dk_at dksX5_goesOn_1 18 rfl rfl)
theorem dX5_goesOn_43 : decode cX5_goesOn 43 = .ok (.aload_n 0, 1) := dk_42 (dk_at dksX5_goesOn_1 19 rfl rfl)
theorem dX5_goesOn_44 : decode cX5_goesOn 44 = .ok (.getfield 7, 3) := dk_180 0 7 (dk_at dksX5_goesOn_1 20 rfl rfl)
theorem dX5_goesOn_47 : decode cX5_goesOn 47 = .ok (.iload_n 3, 1) := dk_29 (dk_at dksX5_goesOn_1 23 rfl rfl)
theorem dX5_goesOn_48 : decode cX5_goesOn 48 = .ok (.iaload, 1) := dk_46 (dk_at dksX5_goesOn_2 0 rfl rfl)
theorem dX5_goesOn_49 : decode cX5_goesOn 49 = .ok (.iconst 2, 1) := dk_5 (dk_at dksX5_goesOn_2 1 rfl rfl)
theorem dX5_goesOn_50 : decode cX5_goesOn 50 = .ok (.if_icmp .ne 24, 3) := dk_160 0 24 (dk_at dksX5_goesOn_2 2 rfl rfl)
theorem dX5_goesOn_53 : decode cX5_goesOn 53 = .ok (.aload_n 0, 1) := dk_42 (dk_at dksX5_goesOn_2 5 rfl rfl)
theorem dX5_goesOn_54 : decode cX5_goesOn 54 = .ok (.getfield 7, 3) := dk_180 0 7 (dk_at dksX5_goesOn_2 6 rfl rfl)
theorem dX5_goesOn_57 : decode cX5_goesOn 57 = .ok (.iload_n 3, 1) := dk_29 (dk_at dksX5_goesOn_2 9 rfl rfl)
theorem dX5_goesOn_58 : decode cX5_goesOn 58 = .ok (.iconst 1, 1) := dk_4 (dk_at dksX5_goesOn_2 10 rfl rfl)
theorem dX5_goesOn_59 : decode cX5_goesOn 59 = .ok (.iadd, 1) := dk_96 (dk_at dksX5_goesOn_2 11 rfl rfl)
theorem dX5_goesOn_60 : decode cX5_goesOn 60 = .ok (.iconst 0, 1) := dk_3 (dk_at dksX5_goesOn_2 12 rfl rfl)
theorem dX5_goesOn_61 : decode cX5_goesOn 61 = .ok (.iastore, 1) := dk_79 (dk_at dksX5_goesOn_2 13 rfl rfl)
theorem dX5_goesOn_62 : decode cX5_goesOn 62 = .ok (.aload_n 0, 1) := dk_42 (dk_at dksX5_goesOn_2 14 rfl rfl)
theorem dX5_goesOn_63 : decode cX5_goesOn 63 = .ok (.getfield 7, 3) := dk_180 0 7 (dk_at dksX5_goesOn_2 15 rfl rfl)
theorem dX5_goesOn_66 : decode cX5_goesOn 66 = .ok (.iload_n 3, 1) := dk_29 (dk_at dksX5_goesOn_2 18 rfl rfl)
theorem dX5_goesOn_67 : decode cX5_goesOn 67 = .ok (.iconst 2, 1) := dk_5 (dk_at dksX5_goesOn_2 19 rfl rfl)
theorem dX5_goesOn_68 : decode cX5_goesOn 68 = .ok (.iadd, 1) := dk_96 (dk_at dksX5_goesOn_2 20 rfl rfl)
theorem dX5_goesOn_69 : decode cX5_goesOn 69 = .ok (.iconst 0, 1) := dk_3 (dk_at dksX5_goesOn_2 21 rfl rfl)
theorem dX5_goesOn_70 : decode cX5_goesOn 70 = .ok (.iastore, 1) := dk_79 (dk_at dksX5_goesOn_2 22 rfl rfl)
theorem dX5_goesOn_71 : decode cX5_goesOn 71 = .ok (.goto 99, 3) := dk_167 0 99 (dk_at dksX5_goesOn_3 0 rfl rfl)
theorem dX5_goesOn_74 : decode cX5_goesOn 74 = .ok (.iload 4, 2) := dk_21 4 (dk_at dksX5_goesOn_3 3 rfl rfl)
theorem dX5_goesOn_76 : decode cX5_goesOn 76 = .ok (.ifCond .ne 29, 3) := dk_154 0 29 (dk_at dksX5_goesOn_3 5 rfl rfl)
theorem dX5_goesOn_79 : decode cX5_goesOn 79 = .ok (.aload_n 0, 1) := dk_42 (dk_at dksX5_goesOn_3 8 rfl rfl)
theorem dX5_goesOn_80 : decode cX5_goesOn 80 = .ok (.getfield 7, 3) := dk_180 0 7 (dk_at dksX5_goesOn_3 9 rfl rfl)
theorem dX5_goesOn_83 : decode cX5_goesOn 83 = .ok (.iload_n 3, 1) := dk_29 (dk_at dksX5_goesOn_3 12 rfl rfl)
theorem dX5_goesOn_84 : decode cX5_goesOn 84 = .ok (.iconst 1, 1) := dk_4 (dk_at dksX5_goesOn_3 13 rfl rfl)
theorem dX5_goesOn_85 : decode cX5_goesOn 85 = .ok (.iadd, 1) := dk_96 (dk_at dksX5_goesOn_3 14 rfl rfl)
theorem dX5_goesOn_86 : decode cX5_goesOn 86 = .ok (.iconst 1, 1) := dk_4 (dk_at dksX5_goesOn_3 15 rfl rfl)
theorem dX5_goesOn_87 : decode cX5_goesOn 87 = .ok (.iastore, 1) := dk_79 (dk_at dksX5_goesOn_3 16 rfl rfl)
theorem dX5_goesOn_88 : decode cX5_goesOn 88 = .ok (.aload_n 0, 1) := dk_42 (dk_at dksX5_goesOn_3 17 rfl rfl)
theorem dX5_goesOn_89 : decode cX5_goesOn 89 = .ok (.getfield 7, 3) := dk_180 0 7 (dk_at dksX5_goesOn_3 18 rfl rfl)
theorem dX5_goesOn_92 : decode cX5_goesOn 92 = .ok (.iload_n 3, 1) := dk_29 (dk_at dksX5_goesOn_3 21 rfl rfl)
theorem dX5_goesOn_93 : decode cX5_goesOn 93 = .ok (.iconst 2, 1) := dk_5 (dk_at dksX5_goesOn_3 22 rfl rfl)
theorem dX5_goesOn_94 : decode cX5_goesOn 94 = .ok (.iadd, 1) := dk_96 (dk_at dksX5_goesOn_3 23 rfl rfl)
theorem dX5_goesOn_95 : decode cX5_goesOn 95 = .ok (.aload_n 0, 1) := dk_42 (dk_at dksX5_goesOn_4 0 rfl rfl)
theorem dX5_goesOn_96 : decode cX5_goesOn 96 = .ok (.getfield 7, 3) := dk_180 0 7 (dk_at dksX5_goesOn_4 1 rfl rfl)
theorem dX5_goesOn_99 : decode cX5_goesOn 99 = .ok (.iconst 2, 1) := dk_5 (dk_at dksX5_goesOn_4 4 rfl rfl)
theorem dX5_goesOn_100 : decode cX5_goesOn 100 = .ok (.iaload, 1) := dk_46 (dk_at dksX5_goesOn_4 5 rfl rfl)
theorem dX5_goesOn_101 : decode cX5_goesOn 101 = .ok (.iastore, 1) := dk_79 (dk_at dksX5_goesOn_4 6 rfl rfl)
theorem dX5_goesOn_102 : decode cX5_goesOn 102 = .ok (.goto 68, 3) := dk_167 0 68 (dk_at dksX5_goesOn_4 7 rfl rfl)
theorem dX5_goesOn_105 : decode cX5_goesOn 105 = .ok (.iload 4, 2) := dk_21 4 (dk_at dksX5_goesOn_4 10 rfl rfl)
theorem dX5_goesOn_107 : decode cX5_goesOn 107 = .ok (.iconst 3, 1) := dk_6 (dk_at dksX5_goesOn_4 12 rfl rfl)
theorem dX5_goesOn_108 : decode cX5_goesOn 108 = .ok (.if_icmp .eq 62, 3) := dk_159 0 62 (dk_at dksX5_goesOn_4 13 rfl rfl)
theorem dX5_goesOn_111 : decode cX5_goesOn 111 = .ok (.aload_n 0, 1) := dk_42 (dk_at dksX5_goesOn_4 16 rfl rfl)
theorem dX5_goesOn_112 : decode cX5_goesOn 112 = .ok (.getfield 7, 3) := dk_180 0 7 (dk_at dksX5_goesOn_4 17 rfl rfl)
theorem dX5_goesOn_115 : decode cX5_goesOn 115 = .ok (.iload_n 3, 1) := dk_29 (dk_at dksX5_goesOn_4 20 rfl rfl)
theorem dX5_goesOn_116 : decode cX5_goesOn 116 = .ok (.iconst 2, 1) := dk_5 (dk_at dksX5_goesOn_4 21 rfl rfl)
theorem dX5_goesOn_117 : decode cX5_goesOn 117 = .ok (.iadd, 1) := dk_96 (dk_at dksX5_goesOn_4 22 rfl rfl)
theorem dX5_goesOn_118 : decode cX5_goesOn 118 = .ok (.dup2, 1) := dk_92 (dk_at dksX5_goesOn_4 23 rfl rfl)
theorem dX5_goesOn_119 : decode cX5_goesOn 119 = .ok (.iaload, 1) := dk_46 (dk_at dksX5_goesOn_5 0 rfl rfl)
theorem dX5_goesOn_120 : decode cX5_goesOn 120 = .ok (.iconst 1, 1) := dk_4 (dk_at dksX5_goesOn_5 1 rfl rfl)
theorem dX5_goesOn_121 : decode cX5_goesOn 121 = .ok (.isub, 1) := dk_100 (dk_at dksX5_goesOn_5 2 rfl rfl)
theorem dX5_goesOn_122 : decode cX5_goesOn 122 = .ok (.iastore, 1) := dk_79 (dk_at dksX5_goesOn_5 3 rfl rfl)
theorem dX5_goesOn_123 : decode cX5_goesOn 123 = .ok (.aload_n 0, 1) := dk_42 (dk_at dksX5_goesOn_5 4 rfl rfl)
theorem dX5_goesOn_124 : decode cX5_goesOn 124 = .ok (.getfield 7, 3) := dk_180 0 7 (dk_at dksX5_goesOn_5 5 rfl rfl)
theorem dX5_goesOn_127 : decode cX5_goesOn 127 = .ok (.iload_n 3, 1) := dk_29 (dk_at dksX5_goesOn_5 8 rfl rfl)
theorem dX5_goesOn_128 : decode cX5_goesOn 128 = .ok (.iconst 2, 1) := dk_5 (dk_at dksX5_goesOn_5 9 rfl rfl)
theorem dX5_goesOn_129 : decode cX5_goesOn 129 = .ok (.iadd, 1) := dk_96 (dk_at dksX5_goesOn_5 10 rfl rfl)
theorem dX5_goesOn_130 : decode cX5_goesOn 130 = .ok (.iaload, 1) := dk_46 (dk_at dksX5_goesOn_5 11 rfl rfl)
theorem dX5_goesOn_131 : decode cX5_goesOn 131 = .ok (.ifCond .ne 39, 3) := dk_154 0 39 (dk_at dksX5_goesOn_5 12 rfl rfl)
theorem dX5_goesOn_134 : decode cX5_goesOn 134 = .ok (.aload_n 0, 1) := dk_42 (dk_at dksX5_goesOn_5 15 rfl rfl)
theorem dX5_goesOn_135 : decode cX5_goesOn 135 = .ok (.getfield 7, 3) := dk_180 0 7 (dk_at dksX5_goesOn_5 16 rfl rfl)
theorem dX5_goesOn_138 : decode cX5_goesOn 138 = .ok (.iload_n 3, 1) := dk_29 (dk_at dksX5_goesOn_5 19 rfl rfl)
theorem dX5_goesOn_139 : decode cX5_goesOn 139 = .ok (.iconst 1, 1) := dk_4 (dk_at dksX5_goesOn_5 20 rfl rfl)
theorem dX5_goesOn_140 : decode cX5_goesOn 140 = .ok (.iadd, 1) := dk_96 (dk_at dksX5_goesOn_5 21 rfl rfl)
theorem dX5_goesOn_141 : decode cX5_goesOn 141 = .ok (.iload 4, 2) := dk_21 4 (dk_at dksX5_goesOn_5 22 rfl rfl)
theorem dX5_goesOn_143 : decode cX5_goesOn 143 = .ok (.iconst 1, 1) := dk_4 (dk_at dksX5_goesOn_6 0 rfl rfl)
theorem dX5_goesOn_144 : decode cX5_goesOn 144 = .ok (.iadd, 1) := dk_96 (dk_at dksX5_goesOn_6 1 rfl rfl)
theorem dX5_goesOn_145 : decode cX5_goesOn 145 = .ok (.iastore, 1) := dk_79 (dk_at dksX5_goesOn_6 2 rfl rfl)
theorem dX5_goesOn_146 : decode cX5_goesOn 146 = .ok (.aload_n 0, 1) := dk_42 (dk_at dksX5_goesOn_6 3 rfl rfl)
theorem dX5_goesOn_147 : decode cX5_goesOn 147 = .ok (.getfield 7, 3) := dk_180 0 7 (dk_at dksX5_goesOn_6 4 rfl rfl)
theorem dX5_goesOn_150 : decode cX5_goesOn 150 = .ok (.iload_n 3, 1) := dk_29 (dk_at dksX5_goesOn_6 7 rfl rfl)
theorem dX5_goesOn_151 : decode cX5_goesOn 151 = .ok (.iconst 2, 1) := dk_5 (dk_at dksX5_goesOn_6 8 rfl rfl)
theorem dX5_goesOn_152 : decode cX5_goesOn 152 = .ok (.iadd, 1) := dk_96 (dk_at dksX5_goesOn_6 9 rfl rfl)
theorem dX5_goesOn_153 : decode cX5_goesOn 153 = .ok (.iload 4, 2) := dk_21 4 (dk_at dksX5_goesOn_6 10 rfl rfl)
theorem dX5_goesOn_155 : decode cX5_goesOn 155 = .ok (.iconst 1, 1) := dk_4 (dk_at dksX5_goesOn_6 12 rfl rfl)
theorem dX5_goesOn_156 : decode cX5_goesOn 156 = .ok (.if_icmp .ne 12, 3) := dk_160 0 12 (dk_at dksX5_goesOn_6 13 rfl rfl)
theorem dX5_goesOn_159 : decode cX5_goesOn 159 = .ok (.aload_n 0, 1) := dk_42 (dk_at dksX5_goesOn_6 16 rfl rfl)
theorem dX5_goesOn_160 : decode cX5_goesOn 160 = .ok (.getfield 7, 3) := dk_180 0 7 (dk_at dksX5_goesOn_6 17 rfl rfl)
theorem dX5_goesOn_163 : decode cX5_goesOn 163 = .ok (.iconst 2, 1) := dk_5 (dk_at dksX5_goesOn_6 20 rfl rfl)
theorem dX5_goesOn_164 : decode cX5_goesOn 164 = .ok (.iaload, 1) := dk_46 (dk_at dksX5_goesOn_6 21 rfl rfl)
theorem dX5_goesOn_165 : decode cX5_goesOn 165 = .ok (.goto 4, 3) := dk_167 0 4 (dk_at dksX5_goesOn_7 0 rfl rfl)
theorem dX5_goesOn_168 : decode cX5_goesOn 168 = .ok (.iconst 0, 1) := dk_3 (dk_at dksX5_goesOn_7 3 rfl rfl)
theorem dX5_goesOn_169 : decode cX5_goesOn 169 = .ok (.iastore, 1) := dk_79 (dk_at dksX5_goesOn_7 4 rfl rfl)
theorem dX5_goesOn_170 : decode cX5_goesOn 170 = .ok (.iload 4, 2) := dk_21 4 (dk_at dksX5_goesOn_7 5 rfl rfl)
theorem dX5_goesOn_172 : decode cX5_goesOn 172 = .ok (.iconst 3, 1) := dk_6 (dk_at dksX5_goesOn_7 7 rfl rfl)
theorem dX5_goesOn_173 : decode cX5_goesOn 173 = .ok (.if_icmp .ne 7, 3) := dk_160 0 7 (dk_at dksX5_goesOn_7 8 rfl rfl)
theorem dX5_goesOn_176 : decode cX5_goesOn 176 = .ok (.iconst 1, 1) := dk_4 (dk_at dksX5_goesOn_7 11 rfl rfl)
theorem dX5_goesOn_177 : decode cX5_goesOn 177 = .ok (.goto 4, 3) := dk_167 0 4 (dk_at dksX5_goesOn_7 12 rfl rfl)
theorem dX5_goesOn_180 : decode cX5_goesOn 180 = .ok (.iconst 0, 1) := dk_3 (dk_at dksX5_goesOn_7 15 rfl rfl)
theorem dX5_goesOn_181 : decode cX5_goesOn 181 = .ok (.aload_n 0, 1) := dk_42 (dk_at dksX5_goesOn_7 16 rfl rfl)
theorem dX5_goesOn_182 : decode cX5_goesOn 182 = .ok (.getfield 7, 3) := dk_180 0 7 (dk_at dksX5_goesOn_7 17 rfl rfl)
theorem dX5_goesOn_185 : decode cX5_goesOn 185 = .ok (.iload_n 3, 1) := dk_29 (dk_at dksX5_goesOn_7 20 rfl rfl)
theorem dX5_goesOn_186 : decode cX5_goesOn 186 = .ok (.iconst 1, 1) := dk_4 (dk_at dksX5_goesOn_7 21 rfl rfl)
theorem dX5_goesOn_187 : decode cX5_goesOn 187 = .ok (.iadd, 1) := dk_96 (dk_at dksX5_goesOn_7 22 rfl rfl)
theorem dX5_goesOn_188 : decode cX5_goesOn 188 = .ok (.iaload, 1) := dk_46 (dk_at dksX5_goesOn_7 23 rfl rfl)
theorem dX5_goesOn_189 : decode cX5_goesOn 189 = .ok (.iconst 3, 1) := dk_6 (dk_at dksX5_goesOn_8 0 rfl rfl)
theorem dX5_goesOn_190 : decode cX5_goesOn 190 = .ok (.if_icmp .ne 7, 3) := dk_160 0 7 (dk_at dksX5_goesOn_8 1 rfl rfl)
theorem dX5_goesOn_193 : decode cX5_goesOn 193 = .ok (.iconst 1, 1) := dk_4 (dk_at dksX5_goesOn_8 4 rfl rfl)
theorem dX5_goesOn_194 : decode cX5_goesOn 194 = .ok (.goto 4, 3) := dk_167 0 4 (dk_at dksX5_goesOn_8 5 rfl rfl)
theorem dX5_goesOn_197 : decode cX5_goesOn 197 = .ok (.iconst 0, 1) := dk_3 (dk_at dksX5_goesOn_8 8 rfl rfl)
theorem dX5_goesOn_198 : decode cX5_goesOn 198 = .ok (.if_icmp .eq 7, 3) := dk_159 0 7 (dk_at dksX5_goesOn_8 9 rfl rfl)
theorem dX5_goesOn_201 : decode cX5_goesOn 201 = .ok (.iconst 1, 1) := dk_4 (dk_at dksX5_goesOn_8 12 rfl rfl)
theorem dX5_goesOn_202 : decode cX5_goesOn 202 = .ok (.goto 4, 3) := dk_167 0 4 (dk_at dksX5_goesOn_8 13 rfl rfl)
theorem dX5_goesOn_205 : decode cX5_goesOn 205 = .ok (.iconst 0, 1) := dk_3 (dk_at dksX5_goesOn_8 16 rfl rfl)
theorem dX5_goesOn_206 : decode cX5_goesOn 206 = .ok (.ireturn, 1) := dk_172 (dk_at dksX5_goesOn_8 17 rfl rfl)
abbrev cX5_roleOf : ByteArray := prog_11_method_49_code
def yX5_roleOf : MethodName := ⟨RX5, "roleOf", "(II)I"⟩
def dkwX5_roleOf_2 : List UInt8 := [167, 0, 4, 5, 172]
abbrev dktX5_roleOf_2 : List UInt8 := dkwX5_roleOf_2 ++ []
def dkwX5_roleOf_1 : List UInt8 := [27, 160, 0, 7, 3, 167, 0, 22, 42, 28, 42, 27, 28, 182, 0, 146, 182, 0, 155, 153, 0, 7, 4]
abbrev dktX5_roleOf_1 : List UInt8 := dkwX5_roleOf_1 ++ dktX5_roleOf_2
def dkwX5_roleOf_0 : List UInt8 := [42, 27, 7, 182, 0, 62, 154, 0, 5, 5, 172, 42, 180, 0, 7, 16, 11, 8, 28, 104, 96, 7, 96, 46]
abbrev dktX5_roleOf_0 : List UInt8 := dkwX5_roleOf_0 ++ dktX5_roleOf_1
theorem dksX5_roleOf_0 : cX5_roleOf.data.toList.drop 0 = dktX5_roleOf_0 := by decide +kernel
theorem dksX5_roleOf_1 : cX5_roleOf.data.toList.drop 24 = dktX5_roleOf_1 := dk_seg dksX5_roleOf_0 24 rfl rfl
theorem dksX5_roleOf_2 : cX5_roleOf.data.toList.drop 47 = dktX5_roleOf_2 := dk_seg dksX5_roleOf_1 23 rfl rfl
theorem dX5_roleOf_0 : decode cX5_roleOf 0 = .ok (.aload_n 0, 1) := dk_42 (dk_at dksX5_roleOf_0 0 rfl rfl)
theorem dX5_roleOf_1 : decode cX5_roleOf 1 = .ok (.iload_n 1, 1) := dk_27 (dk_at dksX5_roleOf_0 1 rfl rfl)
theorem dX5_roleOf_2 : decode cX5_roleOf 2 = .ok (.iconst 4, 1) := dk_7 (dk_at dksX5_roleOf_0 2 rfl rfl)
theorem dX5_roleOf_3 : decode cX5_roleOf 3 = .ok (.invokevirtual 62, 3) := dk_182 0 62 (dk_at dksX5_roleOf_0 3 rfl rfl)
theorem dX5_roleOf_6 : decode cX5_roleOf 6 = .ok (.ifCond .ne 5, 3) := dk_154 0 5 (dk_at dksX5_roleOf_0 6 rfl rfl)
theorem dX5_roleOf_9 : decode cX5_roleOf 9 = .ok (.iconst 2, 1) := dk_5 (dk_at dksX5_roleOf_0 9 rfl rfl)
theorem dX5_roleOf_10 : decode cX5_roleOf 10 = .ok (.ireturn, 1) := dk_172 (dk_at dksX5_roleOf_0 10 rfl rfl)
theorem dX5_roleOf_11 : decode cX5_roleOf 11 = .ok (.aload_n 0, 1) := dk_42 (dk_at dksX5_roleOf_0 11 rfl rfl)
theorem dX5_roleOf_12 : decode cX5_roleOf 12 = .ok (.getfield 7, 3) := dk_180 0 7 (dk_at dksX5_roleOf_0 12 rfl rfl)
theorem dX5_roleOf_15 : decode cX5_roleOf 15 = .ok (.bipush 11, 2) := dk_16 11 (dk_at dksX5_roleOf_0 15 rfl rfl)
theorem dX5_roleOf_17 : decode cX5_roleOf 17 = .ok (.iconst 5, 1) := dk_8 (dk_at dksX5_roleOf_0 17 rfl rfl)
theorem dX5_roleOf_18 : decode cX5_roleOf 18 = .ok (.iload_n 2, 1) := dk_28 (dk_at dksX5_roleOf_0 18 rfl rfl)
theorem dX5_roleOf_19 : decode cX5_roleOf 19 = .ok (.imul, 1) := dk_104 (dk_at dksX5_roleOf_0 19 rfl rfl)
theorem dX5_roleOf_20 : decode cX5_roleOf 20 = .ok (.iadd, 1) := dk_96 (dk_at dksX5_roleOf_0 20 rfl rfl)
theorem dX5_roleOf_21 : decode cX5_roleOf 21 = .ok (.iconst 4, 1) := dk_7 (dk_at dksX5_roleOf_0 21 rfl rfl)
theorem dX5_roleOf_22 : decode cX5_roleOf 22 = .ok (.iadd, 1) := dk_96 (dk_at dksX5_roleOf_0 22 rfl rfl)
theorem dX5_roleOf_23 : decode cX5_roleOf 23 = .ok (.iaload, 1) := dk_46 (dk_at dksX5_roleOf_0 23 rfl rfl)
theorem dX5_roleOf_24 : decode cX5_roleOf 24 = .ok (.iload_n 1, 1) := dk_27 (dk_at dksX5_roleOf_1 0 rfl rfl)
theorem dX5_roleOf_25 : decode cX5_roleOf 25 = .ok (.if_icmp .ne 7, 3) := dk_160 0 7 (dk_at dksX5_roleOf_1 1 rfl rfl)
theorem dX5_roleOf_28 : decode cX5_roleOf 28 = .ok (.iconst 0, 1) := dk_3 (dk_at dksX5_roleOf_1 4 rfl rfl)
theorem dX5_roleOf_29 : decode cX5_roleOf 29 = .ok (.goto 22, 3) := dk_167 0 22 (dk_at dksX5_roleOf_1 5 rfl rfl)
theorem dX5_roleOf_32 : decode cX5_roleOf 32 = .ok (.aload_n 0, 1) := dk_42 (dk_at dksX5_roleOf_1 8 rfl rfl)
theorem dX5_roleOf_33 : decode cX5_roleOf 33 = .ok (.iload_n 2, 1) := dk_28 (dk_at dksX5_roleOf_1 9 rfl rfl)
theorem dX5_roleOf_34 : decode cX5_roleOf 34 = .ok (.aload_n 0, 1) := dk_42 (dk_at dksX5_roleOf_1 10 rfl rfl)
theorem dX5_roleOf_35 : decode cX5_roleOf 35 = .ok (.iload_n 1, 1) := dk_27 (dk_at dksX5_roleOf_1 11 rfl rfl)
theorem dX5_roleOf_36 : decode cX5_roleOf 36 = .ok (.iload_n 2, 1) := dk_28 (dk_at dksX5_roleOf_1 12 rfl rfl)
theorem dX5_roleOf_37 : decode cX5_roleOf 37 = .ok (.invokevirtual 146, 3) := dk_182 0 146 (dk_at dksX5_roleOf_1 13 rfl rfl)
theorem dX5_roleOf_40 : decode cX5_roleOf 40 = .ok (.invokevirtual 155, 3) := dk_182 0 155 (dk_at dksX5_roleOf_1 16 rfl rfl)
theorem dX5_roleOf_43 : decode cX5_roleOf 43 = .ok (.ifCond .eq 7, 3) := dk_153 0 7 (dk_at dksX5_roleOf_1 19 rfl rfl)
theorem dX5_roleOf_46 : decode cX5_roleOf 46 = .ok (.iconst 1, 1) := dk_4 (dk_at dksX5_roleOf_1 22 rfl rfl)
theorem dX5_roleOf_47 : decode cX5_roleOf 47 = .ok (.goto 4, 3) := dk_167 0 4 (dk_at dksX5_roleOf_2 0 rfl rfl)
theorem dX5_roleOf_50 : decode cX5_roleOf 50 = .ok (.iconst 2, 1) := dk_5 (dk_at dksX5_roleOf_2 3 rfl rfl)
theorem dX5_roleOf_51 : decode cX5_roleOf 51 = .ok (.ireturn, 1) := dk_172 (dk_at dksX5_roleOf_2 4 rfl rfl)
abbrev cX5_isAhead : ByteArray := prog_11_method_48_code
def yX5_isAhead : MethodName := ⟨RX5, "isAhead", "(II)Z"⟩
def dkwX5_isAhead_5 : List UInt8 := [182, 0, 53, 162, 0, 7, 4, 167, 0, 4, 3, 172]
abbrev dktX5_isAhead_5 : List UInt8 := dkwX5_isAhead_5 ++ []
def dkwX5_isAhead_4 : List UInt8 := [21, 4, 5, 96, 46, 162, 0, 7, 4, 167, 0, 25, 3, 167, 0, 21, 42, 27, 182, 0, 53, 42, 28]
abbrev dktX5_isAhead_4 : List UInt8 := dkwX5_isAhead_4 ++ dktX5_isAhead_5
def dkwX5_isAhead_3 : List UInt8 := [180, 0, 7, 21, 4, 5, 96, 46, 159, 0, 31, 42, 180, 0, 7, 29, 5, 96, 46, 42, 180, 0, 7]
abbrev dktX5_isAhead_3 : List UInt8 := dkwX5_isAhead_3 ++ dktX5_isAhead_4
def dkwX5_isAhead_2 : List UInt8 := [21, 4, 4, 96, 46, 162, 0, 7, 4, 167, 0, 4, 3, 172, 42, 180, 0, 7, 29, 5, 96, 46, 42]
abbrev dktX5_isAhead_2 : List UInt8 := dkwX5_isAhead_2 ++ dktX5_isAhead_3
def dkwX5_isAhead_1 : List UInt8 := [180, 0, 7, 21, 4, 4, 96, 46, 159, 0, 29, 42, 180, 0, 7, 29, 4, 96, 46, 42, 180, 0, 7]
abbrev dktX5_isAhead_1 : List UInt8 := dkwX5_isAhead_1 ++ dktX5_isAhead_2
def dkwX5_isAhead_0 : List UInt8 := [16, 11, 8, 27, 104, 96, 62, 16, 11, 8, 28, 104, 96, 54, 4, 42, 180, 0, 7, 29, 4, 96, 46, 42]
abbrev dktX5_isAhead_0 : List UInt8 := dkwX5_isAhead_0 ++ dktX5_isAhead_1
theorem dksX5_isAhead_0 : cX5_isAhead.data.toList.drop 0 = dktX5_isAhead_0 := by decide +kernel
theorem dksX5_isAhead_1 : cX5_isAhead.data.toList.drop 24 = dktX5_isAhead_1 := dk_seg dksX5_isAhead_0 24 rfl rfl
theorem dksX5_isAhead_2 : cX5_isAhead.data.toList.drop 47 = dktX5_isAhead_2 := dk_seg dksX5_isAhead_1 23 rfl rfl
theorem dksX5_isAhead_3 : cX5_isAhead.data.toList.drop 70 = dktX5_isAhead_3 := dk_seg dksX5_isAhead_2 23 rfl rfl
theorem dksX5_isAhead_4 : cX5_isAhead.data.toList.drop 93 = dktX5_isAhead_4 := dk_seg dksX5_isAhead_3 23 rfl rfl
theorem dksX5_isAhead_5 : cX5_isAhead.data.toList.drop 116 = dktX5_isAhead_5 := dk_seg dksX5_isAhead_4 23 rfl rfl
theorem dX5_isAhead_0 : decode cX5_isAhead 0 = .ok (.bipush 11, 2) := dk_16 11 (dk_at dksX5_isAhead_0 0 rfl rfl)
theorem dX5_isAhead_2 : decode cX5_isAhead 2 = .ok (.iconst 5, 1) := dk_8 (dk_at dksX5_isAhead_0 2 rfl rfl)
theorem dX5_isAhead_3 : decode cX5_isAhead 3 = .ok (.iload_n 1, 1) := dk_27 (dk_at dksX5_isAhead_0 3 rfl rfl)
theorem dX5_isAhead_4 : decode cX5_isAhead 4 = .ok (.imul, 1) := dk_104 (dk_at dksX5_isAhead_0 4 rfl rfl)
theorem dX5_isAhead_5 : decode cX5_isAhead 5 = .ok (.iadd, 1) := dk_96 (dk_at dksX5_isAhead_0 5 rfl rfl)
theorem dX5_isAhead_6 : decode cX5_isAhead 6 = .ok (.istore_n 3, 1) := dk_62 (dk_at dksX5_isAhead_0 6 rfl rfl)
theorem dX5_isAhead_7 : decode cX5_isAhead 7 = .ok (.bipush 11, 2) := dk_16 11 (dk_at dksX5_isAhead_0 7 rfl rfl)
theorem dX5_isAhead_9 : decode cX5_isAhead 9 = .ok (.iconst 5, 1) := dk_8 (dk_at dksX5_isAhead_0 9 rfl rfl)
theorem dX5_isAhead_10 : decode cX5_isAhead 10 = .ok (.iload_n 2, 1) := dk_28 (dk_at dksX5_isAhead_0 10 rfl rfl)
theorem dX5_isAhead_11 : decode cX5_isAhead 11 = .ok (.imul, 1) := dk_104 (dk_at dksX5_isAhead_0 11 rfl rfl)
theorem dX5_isAhead_12 : decode cX5_isAhead 12 = .ok (.iadd, 1) := dk_96 (dk_at dksX5_isAhead_0 12 rfl rfl)
theorem dX5_isAhead_13 : decode cX5_isAhead 13 = .ok (.istore 4, 2) := dk_54 4 (dk_at dksX5_isAhead_0 13 rfl rfl)
theorem dX5_isAhead_15 : decode cX5_isAhead 15 = .ok (.aload_n 0, 1) := dk_42 (dk_at dksX5_isAhead_0 15 rfl rfl)
theorem dX5_isAhead_16 : decode cX5_isAhead 16 = .ok (.getfield 7, 3) := dk_180 0 7 (dk_at dksX5_isAhead_0 16 rfl rfl)
theorem dX5_isAhead_19 : decode cX5_isAhead 19 = .ok (.iload_n 3, 1) := dk_29 (dk_at dksX5_isAhead_0 19 rfl rfl)
theorem dX5_isAhead_20 : decode cX5_isAhead 20 = .ok (.iconst 1, 1) := dk_4 (dk_at dksX5_isAhead_0 20 rfl rfl)
theorem dX5_isAhead_21 : decode cX5_isAhead 21 = .ok (.iadd, 1) := dk_96 (dk_at dksX5_isAhead_0 21 rfl rfl)
theorem dX5_isAhead_22 : decode cX5_isAhead 22 = .ok (.iaload, 1) := dk_46 (dk_at dksX5_isAhead_0 22 rfl rfl)
theorem dX5_isAhead_23 : decode cX5_isAhead 23 = .ok (.aload_n 0, 1) := dk_42 (dk_at dksX5_isAhead_0 23 rfl rfl)
theorem dX5_isAhead_24 : decode cX5_isAhead 24 = .ok (.getfield 7, 3) := dk_180 0 7 (dk_at dksX5_isAhead_1 0 rfl rfl)
theorem dX5_isAhead_27 : decode cX5_isAhead 27 = .ok (.iload 4, 2) := dk_21 4 (dk_at dksX5_isAhead_1 3 rfl rfl)
theorem dX5_isAhead_29 : decode cX5_isAhead 29 = .ok (.iconst 1, 1) := dk_4 (dk_at dksX5_isAhead_1 5 rfl rfl)
theorem dX5_isAhead_30 : decode cX5_isAhead 30 = .ok (.iadd, 1) := dk_96 (dk_at dksX5_isAhead_1 6 rfl rfl)
theorem dX5_isAhead_31 : decode cX5_isAhead 31 = .ok (.iaload, 1) := dk_46 (dk_at dksX5_isAhead_1 7 rfl rfl)
theorem dX5_isAhead_32 : decode cX5_isAhead 32 = .ok (.if_icmp .eq 29, 3) := dk_159 0 29 (dk_at dksX5_isAhead_1 8 rfl rfl)
theorem dX5_isAhead_35 : decode cX5_isAhead 35 = .ok (.aload_n 0, 1) := dk_42 (dk_at dksX5_isAhead_1 11 rfl rfl)
theorem dX5_isAhead_36 : decode cX5_isAhead 36 = .ok (.getfield 7, 3) := dk_180 0 7 (dk_at dksX5_isAhead_1 12 rfl rfl)
theorem dX5_isAhead_39 : decode cX5_isAhead 39 = .ok (.iload_n 3, 1) := dk_29 (dk_at dksX5_isAhead_1 15 rfl rfl)
theorem dX5_isAhead_40 : decode cX5_isAhead 40 = .ok (.iconst 1, 1) := dk_4 (dk_at dksX5_isAhead_1 16 rfl rfl)
theorem dX5_isAhead_41 : decode cX5_isAhead 41 = .ok (.iadd, 1) := dk_96 (dk_at dksX5_isAhead_1 17 rfl rfl)
theorem dX5_isAhead_42 : decode cX5_isAhead 42 = .ok (.iaload, 1) := dk_46 (dk_at dksX5_isAhead_1 18 rfl rfl)
theorem dX5_isAhead_43 : decode cX5_isAhead 43 = .ok (.aload_n 0, 1) := dk_42 (dk_at dksX5_isAhead_1 19 rfl rfl)
theorem dX5_isAhead_44 : decode cX5_isAhead 44 = .ok (.getfield 7, 3) := dk_180 0 7 (dk_at dksX5_isAhead_1 20 rfl rfl)
theorem dX5_isAhead_47 : decode cX5_isAhead 47 = .ok (.iload 4, 2) := dk_21 4 (dk_at dksX5_isAhead_2 0 rfl rfl)
theorem dX5_isAhead_49 : decode cX5_isAhead 49 = .ok (.iconst 1, 1) := dk_4 (dk_at dksX5_isAhead_2 2 rfl rfl)
theorem dX5_isAhead_50 : decode cX5_isAhead 50 = .ok (.iadd, 1) := dk_96 (dk_at dksX5_isAhead_2 3 rfl rfl)
theorem dX5_isAhead_51 : decode cX5_isAhead 51 = .ok (.iaload, 1) := dk_46 (dk_at dksX5_isAhead_2 4 rfl rfl)
theorem dX5_isAhead_52 : decode cX5_isAhead 52 = .ok (.if_icmp .ge 7, 3) := dk_162 0 7 (dk_at dksX5_isAhead_2 5 rfl rfl)
theorem dX5_isAhead_55 : decode cX5_isAhead 55 = .ok (.iconst 1, 1) := dk_4 (dk_at dksX5_isAhead_2 8 rfl rfl)
theorem dX5_isAhead_56 : decode cX5_isAhead 56 = .ok (.goto 4, 3) := dk_167 0 4 (dk_at dksX5_isAhead_2 9 rfl rfl)
theorem dX5_isAhead_59 : decode cX5_isAhead 59 = .ok (.iconst 0, 1) := dk_3 (dk_at dksX5_isAhead_2 12 rfl rfl)
theorem dX5_isAhead_60 : decode cX5_isAhead 60 = .ok (.ireturn, 1) := dk_172 (dk_at dksX5_isAhead_2 13 rfl rfl)
theorem dX5_isAhead_61 : decode cX5_isAhead 61 = .ok (.aload_n 0, 1) := dk_42 (dk_at dksX5_isAhead_2 14 rfl rfl)
theorem dX5_isAhead_62 : decode cX5_isAhead 62 = .ok (.getfield 7, 3) := dk_180 0 7 (dk_at dksX5_isAhead_2 15 rfl rfl)
theorem dX5_isAhead_65 : decode cX5_isAhead 65 = .ok (.iload_n 3, 1) := dk_29 (dk_at dksX5_isAhead_2 18 rfl rfl)
theorem dX5_isAhead_66 : decode cX5_isAhead 66 = .ok (.iconst 2, 1) := dk_5 (dk_at dksX5_isAhead_2 19 rfl rfl)
theorem dX5_isAhead_67 : decode cX5_isAhead 67 = .ok (.iadd, 1) := dk_96 (dk_at dksX5_isAhead_2 20 rfl rfl)
theorem dX5_isAhead_68 : decode cX5_isAhead 68 = .ok (.iaload, 1) := dk_46 (dk_at dksX5_isAhead_2 21 rfl rfl)
theorem dX5_isAhead_69 : decode cX5_isAhead 69 = .ok (.aload_n 0, 1) := dk_42 (dk_at dksX5_isAhead_2 22 rfl rfl)
theorem dX5_isAhead_70 : decode cX5_isAhead 70 = .ok (.getfield 7, 3) := dk_180 0 7 (dk_at dksX5_isAhead_3 0 rfl rfl)
theorem dX5_isAhead_73 : decode cX5_isAhead 73 = .ok (.iload 4, 2) := dk_21 4 (dk_at dksX5_isAhead_3 3 rfl rfl)
theorem dX5_isAhead_75 : decode cX5_isAhead 75 = .ok (.iconst 2, 1) := dk_5 (dk_at dksX5_isAhead_3 5 rfl rfl)
theorem dX5_isAhead_76 : decode cX5_isAhead 76 = .ok (.iadd, 1) := dk_96 (dk_at dksX5_isAhead_3 6 rfl rfl)
theorem dX5_isAhead_77 : decode cX5_isAhead 77 = .ok (.iaload, 1) := dk_46 (dk_at dksX5_isAhead_3 7 rfl rfl)
theorem dX5_isAhead_78 : decode cX5_isAhead 78 = .ok (.if_icmp .eq 31, 3) := dk_159 0 31 (dk_at dksX5_isAhead_3 8 rfl rfl)
theorem dX5_isAhead_81 : decode cX5_isAhead 81 = .ok (.aload_n 0, 1) := dk_42 (dk_at dksX5_isAhead_3 11 rfl rfl)
theorem dX5_isAhead_82 : decode cX5_isAhead 82 = .ok (.getfield 7, 3) := dk_180 0 7 (dk_at dksX5_isAhead_3 12 rfl rfl)
theorem dX5_isAhead_85 : decode cX5_isAhead 85 = .ok (.iload_n 3, 1) := dk_29 (dk_at dksX5_isAhead_3 15 rfl rfl)
theorem dX5_isAhead_86 : decode cX5_isAhead 86 = .ok (.iconst 2, 1) := dk_5 (dk_at dksX5_isAhead_3 16 rfl rfl)
theorem dX5_isAhead_87 : decode cX5_isAhead 87 = .ok (.iadd, 1) := dk_96 (dk_at dksX5_isAhead_3 17 rfl rfl)
theorem dX5_isAhead_88 : decode cX5_isAhead 88 = .ok (.iaload, 1) := dk_46 (dk_at dksX5_isAhead_3 18 rfl rfl)
theorem dX5_isAhead_89 : decode cX5_isAhead 89 = .ok (.aload_n 0, 1) := dk_42 (dk_at dksX5_isAhead_3 19 rfl rfl)
theorem dX5_isAhead_90 : decode cX5_isAhead 90 = .ok (.getfield 7, 3) := dk_180 0 7 (dk_at dksX5_isAhead_3 20 rfl rfl)
theorem dX5_isAhead_93 : decode cX5_isAhead 93 = .ok (.iload 4, 2) := dk_21 4 (dk_at dksX5_isAhead_4 0 rfl rfl)
theorem dX5_isAhead_95 : decode cX5_isAhead 95 = .ok (.iconst 2, 1) := dk_5 (dk_at dksX5_isAhead_4 2 rfl rfl)
theorem dX5_isAhead_96 : decode cX5_isAhead 96 = .ok (.iadd, 1) := dk_96 (dk_at dksX5_isAhead_4 3 rfl rfl)
theorem dX5_isAhead_97 : decode cX5_isAhead 97 = .ok (.iaload, 1) := dk_46 (dk_at dksX5_isAhead_4 4 rfl rfl)
theorem dX5_isAhead_98 : decode cX5_isAhead 98 = .ok (.if_icmp .ge 7, 3) := dk_162 0 7 (dk_at dksX5_isAhead_4 5 rfl rfl)
theorem dX5_isAhead_101 : decode cX5_isAhead 101 = .ok (.iconst 1, 1) := dk_4 (dk_at dksX5_isAhead_4 8 rfl rfl)
theorem dX5_isAhead_102 : decode cX5_isAhead 102 = .ok (.goto 25, 3) := dk_167 0 25 (dk_at dksX5_isAhead_4 9 rfl rfl)
theorem dX5_isAhead_105 : decode cX5_isAhead 105 = .ok (.iconst 0, 1) := dk_3 (dk_at dksX5_isAhead_4 12 rfl rfl)
theorem dX5_isAhead_106 : decode cX5_isAhead 106 = .ok (.goto 21, 3) := dk_167 0 21 (dk_at dksX5_isAhead_4 13 rfl rfl)
theorem dX5_isAhead_109 : decode cX5_isAhead 109 = .ok (.aload_n 0, 1) := dk_42 (dk_at dksX5_isAhead_4 16 rfl rfl)
theorem dX5_isAhead_110 : decode cX5_isAhead 110 = .ok (.iload_n 1, 1) := dk_27 (dk_at dksX5_isAhead_4 17 rfl rfl)
theorem dX5_isAhead_111 : decode cX5_isAhead 111 = .ok (.invokevirtual 53, 3) := dk_182 0 53 (dk_at dksX5_isAhead_4 18 rfl rfl)
theorem dX5_isAhead_114 : decode cX5_isAhead 114 = .ok (.aload_n 0, 1) := dk_42 (dk_at dksX5_isAhead_4 21 rfl rfl)
theorem dX5_isAhead_115 : decode cX5_isAhead 115 = .ok (.iload_n 2, 1) := dk_28 (dk_at dksX5_isAhead_4 22 rfl rfl)
theorem dX5_isAhead_116 : decode cX5_isAhead 116 = .ok (.invokevirtual 53, 3) := dk_182 0 53 (dk_at dksX5_isAhead_5 0 rfl rfl)
theorem dX5_isAhead_119 : decode cX5_isAhead 119 = .ok (.if_icmp .ge 7, 3) := dk_162 0 7 (dk_at dksX5_isAhead_5 3 rfl rfl)
theorem dX5_isAhead_122 : decode cX5_isAhead 122 = .ok (.iconst 1, 1) := dk_4 (dk_at dksX5_isAhead_5 6 rfl rfl)
theorem dX5_isAhead_123 : decode cX5_isAhead 123 = .ok (.goto 4, 3) := dk_167 0 4 (dk_at dksX5_isAhead_5 7 rfl rfl)
theorem dX5_isAhead_126 : decode cX5_isAhead 126 = .ok (.iconst 0, 1) := dk_3 (dk_at dksX5_isAhead_5 10 rfl rfl)
theorem dX5_isAhead_127 : decode cX5_isAhead 127 = .ok (.ireturn, 1) := dk_172 (dk_at dksX5_isAhead_5 11 rfl rfl)
abbrev cX5_reached : ByteArray := prog_11_method_21_code
def yX5_reached : MethodName := ⟨RX5, "reached", "(I)I"⟩
def dkwX5_reached_4 : List UInt8 := [28, 172]
abbrev dktX5_reached_4 : List UInt8 := dkwX5_reached_4 ++ []
def dkwX5_reached_3 : List UInt8 := [4, 42, 21, 4, 4, 182, 0, 62, 120, 128, 128, 61, 132, 4, 1, 167, 255, 186, 132, 3, 1, 167, 255, 171]
abbrev dktX5_reached_3 : List UInt8 := dkwX5_reached_3 ++ dktX5_reached_4
def dkwX5_reached_2 : List UInt8 := [21, 4, 4, 182, 0, 62, 122, 128, 4, 126, 4, 160, 0, 25, 28, 4, 42, 21, 4, 3, 182, 0, 62, 120]
abbrev dktX5_reached_2 : List UInt8 := dkwX5_reached_2 ++ dktX5_reached_3
def dkwX5_reached_1 : List UInt8 := [162, 0, 65, 42, 21, 4, 182, 0, 66, 153, 0, 50, 28, 42, 21, 4, 3, 182, 0, 62, 122, 28, 42]
abbrev dktX5_reached_1 : List UInt8 := dkwX5_reached_1 ++ dktX5_reached_2
def dkwX5_reached_0 : List UInt8 := [4, 27, 120, 61, 3, 62, 29, 16, 8, 162, 0, 85, 3, 54, 4, 21, 4, 42, 180, 0, 7, 8, 46]
abbrev dktX5_reached_0 : List UInt8 := dkwX5_reached_0 ++ dktX5_reached_1
theorem dksX5_reached_0 : cX5_reached.data.toList.drop 0 = dktX5_reached_0 := by decide +kernel
theorem dksX5_reached_1 : cX5_reached.data.toList.drop 23 = dktX5_reached_1 := dk_seg dksX5_reached_0 23 rfl rfl
theorem dksX5_reached_2 : cX5_reached.data.toList.drop 46 = dktX5_reached_2 := dk_seg dksX5_reached_1 23 rfl rfl
theorem dksX5_reached_3 : cX5_reached.data.toList.drop 70 = dktX5_reached_3 := dk_seg dksX5_reached_2 24 rfl rfl
theorem dksX5_reached_4 : cX5_reached.data.toList.drop 94 = dktX5_reached_4 := dk_seg dksX5_reached_3 24 rfl rfl
theorem dX5_reached_0 : decode cX5_reached 0 = .ok (.iconst 1, 1) := dk_4 (dk_at dksX5_reached_0 0 rfl rfl)
theorem dX5_reached_1 : decode cX5_reached 1 = .ok (.iload_n 1, 1) := dk_27 (dk_at dksX5_reached_0 1 rfl rfl)
theorem dX5_reached_2 : decode cX5_reached 2 = .ok (.ishl, 1) := dk_120 (dk_at dksX5_reached_0 2 rfl rfl)
theorem dX5_reached_3 : decode cX5_reached 3 = .ok (.istore_n 2, 1) := dk_61 (dk_at dksX5_reached_0 3 rfl rfl)
theorem dX5_reached_4 : decode cX5_reached 4 = .ok (.iconst 0, 1) := dk_3 (dk_at dksX5_reached_0 4 rfl rfl)
theorem dX5_reached_5 : decode cX5_reached 5 = .ok (.istore_n 3, 1) := dk_62 (dk_at dksX5_reached_0 5 rfl rfl)
theorem dX5_reached_6 : decode cX5_reached 6 = .ok (.iload_n 3, 1) := dk_29 (dk_at dksX5_reached_0 6 rfl rfl)
theorem dX5_reached_7 : decode cX5_reached 7 = .ok (.bipush 8, 2) := dk_16 8 (dk_at dksX5_reached_0 7 rfl rfl)
theorem dX5_reached_9 : decode cX5_reached 9 = .ok (.if_icmp .ge 85, 3) := dk_162 0 85 (dk_at dksX5_reached_0 9 rfl rfl)
theorem dX5_reached_12 : decode cX5_reached 12 = .ok (.iconst 0, 1) := dk_3 (dk_at dksX5_reached_0 12 rfl rfl)
theorem dX5_reached_13 : decode cX5_reached 13 = .ok (.istore 4, 2) := dk_54 4 (dk_at dksX5_reached_0 13 rfl rfl)
theorem dX5_reached_15 : decode cX5_reached 15 = .ok (.iload 4, 2) := dk_21 4 (dk_at dksX5_reached_0 15 rfl rfl)
theorem dX5_reached_17 : decode cX5_reached 17 = .ok (.aload_n 0, 1) := dk_42 (dk_at dksX5_reached_0 17 rfl rfl)
theorem dX5_reached_18 : decode cX5_reached 18 = .ok (.getfield 7, 3) := dk_180 0 7 (dk_at dksX5_reached_0 18 rfl rfl)
theorem dX5_reached_21 : decode cX5_reached 21 = .ok (.iconst 5, 1) := dk_8 (dk_at dksX5_reached_0 21 rfl rfl)
theorem dX5_reached_22 : decode cX5_reached 22 = .ok (.iaload, 1) := dk_46 (dk_at dksX5_reached_0 22 rfl rfl)
theorem dX5_reached_23 : decode cX5_reached 23 = .ok (.if_icmp .ge 65, 3) := dk_162 0 65 (dk_at dksX5_reached_1 0 rfl rfl)
theorem dX5_reached_26 : decode cX5_reached 26 = .ok (.aload_n 0, 1) := dk_42 (dk_at dksX5_reached_1 3 rfl rfl)
theorem dX5_reached_27 : decode cX5_reached 27 = .ok (.iload 4, 2) := dk_21 4 (dk_at dksX5_reached_1 4 rfl rfl)
theorem dX5_reached_29 : decode cX5_reached 29 = .ok (.invokevirtual 66, 3) := dk_182 0 66 (dk_at dksX5_reached_1 6 rfl rfl)
theorem dX5_reached_32 : decode cX5_reached 32 = .ok (.ifCond .eq 50, 3) := dk_153 0 50 (dk_at dksX5_reached_1 9 rfl rfl)
theorem dX5_reached_35 : decode cX5_reached 35 = .ok (.iload_n 2, 1) := dk_28 (dk_at dksX5_reached_1 12 rfl rfl)
theorem dX5_reached_36 : decode cX5_reached 36 = .ok (.aload_n 0, 1) := dk_42 (dk_at dksX5_reached_1 13 rfl rfl)
theorem dX5_reached_37 : decode cX5_reached 37 = .ok (.iload 4, 2) := dk_21 4 (dk_at dksX5_reached_1 14 rfl rfl)
theorem dX5_reached_39 : decode cX5_reached 39 = .ok (.iconst 0, 1) := dk_3 (dk_at dksX5_reached_1 16 rfl rfl)
theorem dX5_reached_40 : decode cX5_reached 40 = .ok (.invokevirtual 62, 3) := dk_182 0 62 (dk_at dksX5_reached_1 17 rfl rfl)
theorem dX5_reached_43 : decode cX5_reached 43 = .ok (.ishr, 1) := dk_122 (dk_at dksX5_reached_1 20 rfl rfl)
theorem dX5_reached_44 : decode cX5_reached 44 = .ok (.iload_n 2, 1) := dk_28 (dk_at dksX5_reached_1 21 rfl rfl)
theorem dX5_reached_45 : decode cX5_reached 45 = .ok (.aload_n 0, 1) := dk_42 (dk_at dksX5_reached_1 22 rfl rfl)
theorem dX5_reached_46 : decode cX5_reached 46 = .ok (.iload 4, 2) := dk_21 4 (dk_at dksX5_reached_2 0 rfl rfl)
theorem dX5_reached_48 : decode cX5_reached 48 = .ok (.iconst 1, 1) := dk_4 (dk_at dksX5_reached_2 2 rfl rfl)
theorem dX5_reached_49 : decode cX5_reached 49 = .ok (.invokevirtual 62, 3) := dk_182 0 62 (dk_at dksX5_reached_2 3 rfl rfl)
theorem dX5_reached_52 : decode cX5_reached 52 = .ok (.ishr, 1) := dk_122 (dk_at dksX5_reached_2 6 rfl rfl)
theorem dX5_reached_53 : decode cX5_reached 53 = .ok (.ior, 1) := dk_128 (dk_at dksX5_reached_2 7 rfl rfl)
theorem dX5_reached_54 : decode cX5_reached 54 = .ok (.iconst 1, 1) := dk_4 (dk_at dksX5_reached_2 8 rfl rfl)
theorem dX5_reached_55 : decode cX5_reached 55 = .ok (.iand, 1) := dk_126 (dk_at dksX5_reached_2 9 rfl rfl)
theorem dX5_reached_56 : decode cX5_reached 56 = .ok (.iconst 1, 1) := dk_4 (dk_at dksX5_reached_2 10 rfl rfl)
theorem dX5_reached_57 : decode cX5_reached 57 = .ok (.if_icmp .ne 25, 3) := dk_160 0 25 (dk_at dksX5_reached_2 11 rfl rfl)
theorem dX5_reached_60 : decode cX5_reached 60 = .ok (.iload_n 2, 1) := dk_28 (dk_at dksX5_reached_2 14 rfl rfl)
theorem dX5_reached_61 : decode cX5_reached 61 = .ok (.iconst 1, 1) := dk_4 (dk_at dksX5_reached_2 15 rfl rfl)
theorem dX5_reached_62 : decode cX5_reached 62 = .ok (.aload_n 0, 1) := dk_42 (dk_at dksX5_reached_2 16 rfl rfl)
theorem dX5_reached_63 : decode cX5_reached 63 = .ok (.iload 4, 2) := dk_21 4 (dk_at dksX5_reached_2 17 rfl rfl)
theorem dX5_reached_65 : decode cX5_reached 65 = .ok (.iconst 0, 1) := dk_3 (dk_at dksX5_reached_2 19 rfl rfl)
theorem dX5_reached_66 : decode cX5_reached 66 = .ok (.invokevirtual 62, 3) := dk_182 0 62 (dk_at dksX5_reached_2 20 rfl rfl)
theorem dX5_reached_69 : decode cX5_reached 69 = .ok (.ishl, 1) := dk_120 (dk_at dksX5_reached_2 23 rfl rfl)
theorem dX5_reached_70 : decode cX5_reached 70 = .ok (.iconst 1, 1) := dk_4 (dk_at dksX5_reached_3 0 rfl rfl)
theorem dX5_reached_71 : decode cX5_reached 71 = .ok (.aload_n 0, 1) := dk_42 (dk_at dksX5_reached_3 1 rfl rfl)
theorem dX5_reached_72 : decode cX5_reached 72 = .ok (.iload 4, 2) := dk_21 4 (dk_at dksX5_reached_3 2 rfl rfl)
theorem dX5_reached_74 : decode cX5_reached 74 = .ok (.iconst 1, 1) := dk_4 (dk_at dksX5_reached_3 4 rfl rfl)
theorem dX5_reached_75 : decode cX5_reached 75 = .ok (.invokevirtual 62, 3) := dk_182 0 62 (dk_at dksX5_reached_3 5 rfl rfl)
theorem dX5_reached_78 : decode cX5_reached 78 = .ok (.ishl, 1) := dk_120 (dk_at dksX5_reached_3 8 rfl rfl)
theorem dX5_reached_79 : decode cX5_reached 79 = .ok (.ior, 1) := dk_128 (dk_at dksX5_reached_3 9 rfl rfl)
theorem dX5_reached_80 : decode cX5_reached 80 = .ok (.ior, 1) := dk_128 (dk_at dksX5_reached_3 10 rfl rfl)
theorem dX5_reached_81 : decode cX5_reached 81 = .ok (.istore_n 2, 1) := dk_61 (dk_at dksX5_reached_3 11 rfl rfl)
theorem dX5_reached_82 : decode cX5_reached 82 = .ok (.iinc 4 1, 3) := dk_132 4 1 (dk_at dksX5_reached_3 12 rfl rfl)
theorem dX5_reached_85 : decode cX5_reached 85 = .ok (.goto (-70), 3) := dk_167 255 186 (dk_at dksX5_reached_3 15 rfl rfl)
theorem dX5_reached_88 : decode cX5_reached 88 = .ok (.iinc 3 1, 3) := dk_132 3 1 (dk_at dksX5_reached_3 18 rfl rfl)
theorem dX5_reached_91 : decode cX5_reached 91 = .ok (.goto (-85), 3) := dk_167 255 171 (dk_at dksX5_reached_3 21 rfl rfl)
theorem dX5_reached_94 : decode cX5_reached 94 = .ok (.iload_n 2, 1) := dk_28 (dk_at dksX5_reached_4 0 rfl rfl)
theorem dX5_reached_95 : decode cX5_reached 95 = .ok (.ireturn, 1) := dk_172 (dk_at dksX5_reached_4 1 rfl rfl)
abbrev cX5_carries : ByteArray := prog_11_method_20_code
def yX5_carries : MethodName := ⟨RX5, "carries", "(I)Z"⟩
def dkwX5_carries_1 : List UInt8 := [16, 12, 182, 0, 62, 6, 160, 0, 7, 4, 167, 0, 4, 3, 172]
abbrev dktX5_carries_1 : List UInt8 := dkwX5_carries_1 ++ []
def dkwX5_carries_0 : List UInt8 := [42, 27, 7, 182, 0, 62, 4, 160, 0, 29, 42, 27, 16, 9, 182, 0, 62, 6, 160, 0, 18, 42, 27]
abbrev dktX5_carries_0 : List UInt8 := dkwX5_carries_0 ++ dktX5_carries_1
theorem dksX5_carries_0 : cX5_carries.data.toList.drop 0 = dktX5_carries_0 := by decide +kernel
theorem dksX5_carries_1 : cX5_carries.data.toList.drop 23 = dktX5_carries_1 := dk_seg dksX5_carries_0 23 rfl rfl
theorem dX5_carries_0 : decode cX5_carries 0 = .ok (.aload_n 0, 1) := dk_42 (dk_at dksX5_carries_0 0 rfl rfl)
theorem dX5_carries_1 : decode cX5_carries 1 = .ok (.iload_n 1, 1) := dk_27 (dk_at dksX5_carries_0 1 rfl rfl)
theorem dX5_carries_2 : decode cX5_carries 2 = .ok (.iconst 4, 1) := dk_7 (dk_at dksX5_carries_0 2 rfl rfl)
theorem dX5_carries_3 : decode cX5_carries 3 = .ok (.invokevirtual 62, 3) := dk_182 0 62 (dk_at dksX5_carries_0 3 rfl rfl)
theorem dX5_carries_6 : decode cX5_carries 6 = .ok (.iconst 1, 1) := dk_4 (dk_at dksX5_carries_0 6 rfl rfl)
theorem dX5_carries_7 : decode cX5_carries 7 = .ok (.if_icmp .ne 29, 3) := dk_160 0 29 (dk_at dksX5_carries_0 7 rfl rfl)
theorem dX5_carries_10 : decode cX5_carries 10 = .ok (.aload_n 0, 1) := dk_42 (dk_at dksX5_carries_0 10 rfl rfl)
theorem dX5_carries_11 : decode cX5_carries 11 = .ok (.iload_n 1, 1) := dk_27 (dk_at dksX5_carries_0 11 rfl rfl)
theorem dX5_carries_12 : decode cX5_carries 12 = .ok (.bipush 9, 2) := dk_16 9 (dk_at dksX5_carries_0 12 rfl rfl)
theorem dX5_carries_14 : decode cX5_carries 14 = .ok (.invokevirtual 62, 3) := dk_182 0 62 (dk_at dksX5_carries_0 14 rfl rfl)
theorem dX5_carries_17 : decode cX5_carries 17 = .ok (.iconst 3, 1) := dk_6 (dk_at dksX5_carries_0 17 rfl rfl)
theorem dX5_carries_18 : decode cX5_carries 18 = .ok (.if_icmp .ne 18, 3) := dk_160 0 18 (dk_at dksX5_carries_0 18 rfl rfl)
theorem dX5_carries_21 : decode cX5_carries 21 = .ok (.aload_n 0, 1) := dk_42 (dk_at dksX5_carries_0 21 rfl rfl)
theorem dX5_carries_22 : decode cX5_carries 22 = .ok (.iload_n 1, 1) := dk_27 (dk_at dksX5_carries_0 22 rfl rfl)
theorem dX5_carries_23 : decode cX5_carries 23 = .ok (.bipush 12, 2) := dk_16 12 (dk_at dksX5_carries_1 0 rfl rfl)
theorem dX5_carries_25 : decode cX5_carries 25 = .ok (.invokevirtual 62, 3) := dk_182 0 62 (dk_at dksX5_carries_1 2 rfl rfl)
theorem dX5_carries_28 : decode cX5_carries 28 = .ok (.iconst 3, 1) := dk_6 (dk_at dksX5_carries_1 5 rfl rfl)
theorem dX5_carries_29 : decode cX5_carries 29 = .ok (.if_icmp .ne 7, 3) := dk_160 0 7 (dk_at dksX5_carries_1 6 rfl rfl)
theorem dX5_carries_32 : decode cX5_carries 32 = .ok (.iconst 1, 1) := dk_4 (dk_at dksX5_carries_1 9 rfl rfl)
theorem dX5_carries_33 : decode cX5_carries 33 = .ok (.goto 4, 3) := dk_167 0 4 (dk_at dksX5_carries_1 10 rfl rfl)
theorem dX5_carries_36 : decode cX5_carries 36 = .ok (.iconst 0, 1) := dk_3 (dk_at dksX5_carries_1 13 rfl rfl)
theorem dX5_carries_37 : decode cX5_carries 37 = .ok (.ireturn, 1) := dk_172 (dk_at dksX5_carries_1 14 rfl rfl)
abbrev cX5_time : ByteArray := prog_11_method_40_code
def yX5_time : MethodName := ⟨RX5, "time", "()I"⟩
def dkwX5_time_0 : List UInt8 := [42, 42, 180, 0, 7, 4, 46, 182, 0, 45, 172]
abbrev dktX5_time_0 : List UInt8 := dkwX5_time_0 ++ []
theorem dksX5_time_0 : cX5_time.data.toList.drop 0 = dktX5_time_0 := by decide +kernel
theorem dX5_time_0 : decode cX5_time 0 = .ok (.aload_n 0, 1) := dk_42 (dk_at dksX5_time_0 0 rfl rfl)
theorem dX5_time_1 : decode cX5_time 1 = .ok (.aload_n 0, 1) := dk_42 (dk_at dksX5_time_0 1 rfl rfl)
theorem dX5_time_2 : decode cX5_time 2 = .ok (.getfield 7, 3) := dk_180 0 7 (dk_at dksX5_time_0 2 rfl rfl)
theorem dX5_time_5 : decode cX5_time 5 = .ok (.iconst 1, 1) := dk_4 (dk_at dksX5_time_0 5 rfl rfl)
theorem dX5_time_6 : decode cX5_time 6 = .ok (.iaload, 1) := dk_46 (dk_at dksX5_time_0 6 rfl rfl)
theorem dX5_time_7 : decode cX5_time 7 = .ok (.invokevirtual 45, 3) := dk_182 0 45 (dk_at dksX5_time_0 7 rfl rfl)
theorem dX5_time_10 : decode cX5_time 10 = .ok (.ireturn, 1) := dk_172 (dk_at dksX5_time_0 10 rfl rfl)
abbrev cX5_send : ByteArray := prog_11_method_54_code
def yX5_send : MethodName := ⟨RX5, "send", "(II)I"⟩
def dkwX5_send_16 : List UInt8 := [42, 21, 5, 21, 6, 96, 182, 0, 76, 172]
abbrev dktX5_send_16 : List UInt8 := dkwX5_send_16 ++ []
def dkwX5_send_15 : List UInt8 := [16, 9, 92, 46, 21, 6, 17, 3, 232, 108, 96, 79, 42, 180, 0, 7, 16, 10, 92, 46, 21, 5, 96, 79]
abbrev dktX5_send_15 : List UInt8 := dkwX5_send_15 ++ dktX5_send_16
def dkwX5_send_14 : List UInt8 := [167, 255, 130, 132, 7, 1, 167, 255, 20, 42, 180, 0, 7, 16, 8, 92, 46, 4, 96, 79, 42, 180, 0, 7]
abbrev dktX5_send_14 : List UInt8 := dkwX5_send_14 ++ dktX5_send_15
def dkwX5_send_13 : List UInt8 := [180, 0, 28, 29, 21, 12, 79, 132, 3, 1, 42, 21, 13, 27, 21, 12, 182, 0, 167, 132, 12, 1]
abbrev dktX5_send_13 : List UInt8 := dkwX5_send_13 ++ dktX5_send_14
def dkwX5_send_12 : List UInt8 := [4, 126, 154, 0, 40, 21, 4, 4, 21, 13, 120, 128, 54, 4, 42, 180, 0, 25, 29, 21, 13, 79, 42]
abbrev dktX5_send_12 : List UInt8 := dkwX5_send_12 ++ dktX5_send_13
def dkwX5_send_11 : List UInt8 := [21, 7, 46, 159, 0, 63, 42, 21, 12, 21, 8, 182, 0, 146, 54, 13, 132, 5, 1, 21, 4, 21, 13, 122]
abbrev dktX5_send_11 : List UInt8 := dkwX5_send_11 ++ dktX5_send_12
def dkwX5_send_10 : List UInt8 := [153, 0, 90, 21, 10, 153, 0, 13, 21, 12, 21, 9, 160, 0, 78, 167, 0, 15, 21, 12, 42, 180, 0, 28]
abbrev dktX5_send_10 : List UInt8 := dkwX5_send_10 ++ dktX5_send_11
def dkwX5_send_9 : List UInt8 := [21, 11, 154, 0, 116, 42, 21, 12, 21, 8, 182, 0, 149, 153, 0, 99, 42, 21, 12, 182, 0, 66]
abbrev dktX5_send_9 : List UInt8 := dkwX5_send_9 ++ dktX5_send_10
def dkwX5_send_8 : List UInt8 := [17, 3, 232, 167, 0, 5, 21, 6, 54, 6, 3, 54, 12, 21, 12, 42, 180, 0, 7, 8, 46, 162, 0, 121]
abbrev dktX5_send_8 : List UInt8 := dkwX5_send_8 ++ dktX5_send_9
def dkwX5_send_7 : List UInt8 := [17, 0, 179, 28, 96, 46, 21, 8, 160, 0, 7, 4, 167, 0, 4, 3, 54, 11, 21, 11, 153, 0, 9]
abbrev dktX5_send_7 : List UInt8 := dkwX5_send_7 ++ dktX5_send_8
def dkwX5_send_6 : List UInt8 := [21, 9, 42, 180, 0, 28, 21, 7, 46, 159, 0, 7, 4, 167, 0, 4, 3, 54, 10, 42, 180, 0, 7]
abbrev dktX5_send_6 : List UInt8 := dkwX5_send_6 ++ dktX5_send_7
def dkwX5_send_5 : List UInt8 := [54, 9, 21, 9, 155, 0, 35, 21, 9, 16, 100, 162, 0, 28, 42, 21, 9, 182, 0, 66, 153, 0, 19]
abbrev dktX5_send_5 : List UInt8 := dkwX5_send_5 ++ dktX5_send_6
def dkwX5_send_4 : List UInt8 := [54, 7, 21, 7, 29, 162, 0, 236, 42, 180, 0, 25, 21, 7, 46, 54, 8, 42, 21, 8, 28, 182, 0, 170]
abbrev dktX5_send_4 : List UInt8 := dkwX5_send_4 ++ dktX5_send_5
def dkwX5_send_3 : List UInt8 := [96, 46, 79, 42, 180, 0, 28, 3, 2, 79, 42, 42, 180, 0, 25, 3, 46, 27, 16, 100, 182, 0, 167, 3]
abbrev dktX5_send_3 : List UInt8 := dkwX5_send_3 ++ dktX5_send_4
def dkwX5_send_2 : List UInt8 := [96, 46, 120, 54, 4, 3, 54, 5, 3, 54, 6, 42, 180, 0, 25, 3, 42, 180, 0, 7, 17, 0, 179, 27]
abbrev dktX5_send_2 : List UInt8 := dkwX5_send_2 ++ dktX5_send_3
def dkwX5_send_1 : List UInt8 := [160, 0, 9, 42, 5, 182, 0, 70, 172, 42, 182, 0, 73, 4, 62, 4, 42, 180, 0, 7, 17, 0, 179, 27]
abbrev dktX5_send_1 : List UInt8 := dkwX5_send_1 ++ dktX5_send_2
def dkwX5_send_0 : List UInt8 := [27, 184, 0, 92, 153, 0, 10, 28, 184, 0, 92, 154, 0, 9, 42, 4, 182, 0, 70, 172, 27, 28]
abbrev dktX5_send_0 : List UInt8 := dkwX5_send_0 ++ dktX5_send_1
theorem dksX5_send_0 : cX5_send.data.toList.drop 0 = dktX5_send_0 := by decide +kernel
theorem dksX5_send_1 : cX5_send.data.toList.drop 22 = dktX5_send_1 := dk_seg dksX5_send_0 22 rfl rfl
theorem dksX5_send_2 : cX5_send.data.toList.drop 46 = dktX5_send_2 := dk_seg dksX5_send_1 24 rfl rfl
theorem dksX5_send_3 : cX5_send.data.toList.drop 70 = dktX5_send_3 := dk_seg dksX5_send_2 24 rfl rfl
theorem dksX5_send_4 : cX5_send.data.toList.drop 94 = dktX5_send_4 := dk_seg dksX5_send_3 24 rfl rfl
theorem dksX5_send_5 : cX5_send.data.toList.drop 118 = dktX5_send_5 := dk_seg dksX5_send_4 24 rfl rfl
theorem dksX5_send_6 : cX5_send.data.toList.drop 141 = dktX5_send_6 := dk_seg dksX5_send_5 23 rfl rfl
theorem dksX5_send_7 : cX5_send.data.toList.drop 164 = dktX5_send_7 := dk_seg dksX5_send_6 23 rfl rfl
theorem dksX5_send_8 : cX5_send.data.toList.drop 187 = dktX5_send_8 := dk_seg dksX5_send_7 23 rfl rfl
theorem dksX5_send_9 : cX5_send.data.toList.drop 211 = dktX5_send_9 := dk_seg dksX5_send_8 24 rfl rfl
theorem dksX5_send_10 : cX5_send.data.toList.drop 233 = dktX5_send_10 := dk_seg dksX5_send_9 22 rfl rfl
theorem dksX5_send_11 : cX5_send.data.toList.drop 257 = dktX5_send_11 := dk_seg dksX5_send_10 24 rfl rfl
theorem dksX5_send_12 : cX5_send.data.toList.drop 281 = dktX5_send_12 := dk_seg dksX5_send_11 24 rfl rfl
theorem dksX5_send_13 : cX5_send.data.toList.drop 304 = dktX5_send_13 := dk_seg dksX5_send_12 23 rfl rfl
theorem dksX5_send_14 : cX5_send.data.toList.drop 326 = dktX5_send_14 := dk_seg dksX5_send_13 22 rfl rfl
theorem dksX5_send_15 : cX5_send.data.toList.drop 350 = dktX5_send_15 := dk_seg dksX5_send_14 24 rfl rfl
theorem dksX5_send_16 : cX5_send.data.toList.drop 374 = dktX5_send_16 := dk_seg dksX5_send_15 24 rfl rfl
theorem dX5_send_0 : decode cX5_send 0 = .ok (.iload_n 1, 1) := dk_27 (dk_at dksX5_send_0 0 rfl rfl)
theorem dX5_send_1 : decode cX5_send 1 = .ok (.invokestatic 92, 3) := dk_184 0 92 (dk_at dksX5_send_0 1 rfl rfl)
theorem dX5_send_4 : decode cX5_send 4 = .ok (.ifCond .eq 10, 3) := dk_153 0 10 (dk_at dksX5_send_0 4 rfl rfl)
theorem dX5_send_7 : decode cX5_send 7 = .ok (.iload_n 2, 1) := dk_28 (dk_at dksX5_send_0 7 rfl rfl)
theorem dX5_send_8 : decode cX5_send 8 = .ok (.invokestatic 92, 3) := dk_184 0 92 (dk_at dksX5_send_0 8 rfl rfl)
theorem dX5_send_11 : decode cX5_send 11 = .ok (.ifCond .ne 9, 3) := dk_154 0 9 (dk_at dksX5_send_0 11 rfl rfl)
theorem dX5_send_14 : decode cX5_send 14 = .ok (.aload_n 0, 1) := dk_42 (dk_at dksX5_send_0 14 rfl rfl)
theorem dX5_send_15 : decode cX5_send 15 = .ok (.iconst 1, 1) := dk_4 (dk_at dksX5_send_0 15 rfl rfl)
theorem dX5_send_16 : decode cX5_send 16 = .ok (.invokevirtual 70, 3) := dk_182 0 70 (dk_at dksX5_send_0 16 rfl rfl)
theorem dX5_send_19 : decode cX5_send 19 = .ok (.ireturn, 1) := dk_172 (dk_at dksX5_send_0 19 rfl rfl)
theorem dX5_send_20 : decode cX5_send 20 = .ok (.iload_n 1, 1) := dk_27 (dk_at dksX5_send_0 20 rfl rfl)
theorem dX5_send_21 : decode cX5_send 21 = .ok (.iload_n 2, 1) := dk_28 (dk_at dksX5_send_0 21 rfl rfl)
theorem dX5_send_22 : decode cX5_send 22 = .ok (.if_icmp .ne 9, 3) := dk_160 0 9 (dk_at dksX5_send_1 0 rfl rfl)
theorem dX5_send_25 : decode cX5_send 25 = .ok (.aload_n 0, 1) := dk_42 (dk_at dksX5_send_1 3 rfl rfl)
theorem dX5_send_26 : decode cX5_send 26 = .ok (.iconst 2, 1) := dk_5 (dk_at dksX5_send_1 4 rfl rfl)
theorem dX5_send_27 : decode cX5_send 27 = .ok (.invokevirtual 70, 3) := dk_182 0 70 (dk_at dksX5_send_1 5 rfl rfl)
theorem dX5_send_30 : decode cX5_send 30 = .ok (.ireturn, 1) := dk_172 (dk_at dksX5_send_1 8 rfl rfl)
theorem dX5_send_31 : decode cX5_send 31 = .ok (.aload_n 0, 1) := dk_42 (dk_at dksX5_send_1 9 rfl rfl)
theorem dX5_send_32 : decode cX5_send 32 = .ok (.invokevirtual 73, 3) := dk_182 0 73 (dk_at dksX5_send_1 10 rfl rfl)
theorem dX5_send_35 : decode cX5_send 35 = .ok (.iconst 1, 1) := dk_4 (dk_at dksX5_send_1 13 rfl rfl)
theorem dX5_send_36 : decode cX5_send 36 = .ok (.istore_n 3, 1) := dk_62 (dk_at dksX5_send_1 14 rfl rfl)
theorem dX5_send_37 : decode cX5_send 37 = .ok (.iconst 1, 1) := dk_4 (dk_at dksX5_send_1 15 rfl rfl)
theorem dX5_send_38 : decode cX5_send 38 = .ok (.aload_n 0, 1) := dk_42 (dk_at dksX5_send_1 16 rfl rfl)
theorem dX5_send_39 : decode cX5_send 39 = .ok (.getfield 7, 3) := dk_180 0 7 (dk_at dksX5_send_1 17 rfl rfl)
theorem dX5_send_42 : decode cX5_send 42 = .ok (.sipush 179, 3) := dk_17 0 179 (dk_at dksX5_send_1 20 rfl rfl)
theorem dX5_send_45 : decode cX5_send 45 = .ok (.iload_n 1, 1) := dk_27 (dk_at dksX5_send_1 23 rfl rfl)
theorem dX5_send_46 : decode cX5_send 46 = .ok (.iadd, 1) := dk_96 (dk_at dksX5_send_2 0 rfl rfl)
theorem dX5_send_47 : decode cX5_send 47 = .ok (.iaload, 1) := dk_46 (dk_at dksX5_send_2 1 rfl rfl)
theorem dX5_send_48 : decode cX5_send 48 = .ok (.ishl, 1) := dk_120 (dk_at dksX5_send_2 2 rfl rfl)
theorem dX5_send_49 : decode cX5_send 49 = .ok (.istore 4, 2) := dk_54 4 (dk_at dksX5_send_2 3 rfl rfl)
theorem dX5_send_51 : decode cX5_send 51 = .ok (.iconst 0, 1) := dk_3 (dk_at dksX5_send_2 5 rfl rfl)
theorem dX5_send_52 : decode cX5_send 52 = .ok (.istore 5, 2) := dk_54 5 (dk_at dksX5_send_2 6 rfl rfl)
theorem dX5_send_54 : decode cX5_send 54 = .ok (.iconst 0, 1) := dk_3 (dk_at dksX5_send_2 8 rfl rfl)
theorem dX5_send_55 : decode cX5_send 55 = .ok (.istore 6, 2) := dk_54 6 (dk_at dksX5_send_2 9 rfl rfl)
theorem dX5_send_57 : decode cX5_send 57 = .ok (.aload_n 0, 1) := dk_42 (dk_at dksX5_send_2 11 rfl rfl)
theorem dX5_send_58 : decode cX5_send 58 = .ok (.getfield 25, 3) := dk_180 0 25 (dk_at dksX5_send_2 12 rfl rfl)
theorem dX5_send_61 : decode cX5_send 61 = .ok (.iconst 0, 1) := dk_3 (dk_at dksX5_send_2 15 rfl rfl)
theorem dX5_send_62 : decode cX5_send 62 = .ok (.aload_n 0, 1) := dk_42 (dk_at dksX5_send_2 16 rfl rfl)
theorem dX5_send_63 : decode cX5_send 63 = .ok (.getfield 7, 3) := dk_180 0 7 (dk_at dksX5_send_2 17 rfl rfl)
theorem dX5_send_66 : decode cX5_send 66 = .ok (.sipush 179, 3) := dk_17 0 179 (dk_at dksX5_send_2 20 rfl rfl)
theorem dX5_send_69 : decode cX5_send 69 = .ok (.iload_n 1, 1) := dk_27 (dk_at dksX5_send_2 23 rfl rfl)
theorem dX5_send_70 : decode cX5_send 70 = .ok (.iadd, 1) := dk_96 (dk_at dksX5_send_3 0 rfl rfl)
theorem dX5_send_71 : decode cX5_send 71 = .ok (.iaload, 1) := dk_46 (dk_at dksX5_send_3 1 rfl rfl)
theorem dX5_send_72 : decode cX5_send 72 = .ok (.iastore, 1) := dk_79 (dk_at dksX5_send_3 2 rfl rfl)
theorem dX5_send_73 : decode cX5_send 73 = .ok (.aload_n 0, 1) := dk_42 (dk_at dksX5_send_3 3 rfl rfl)
theorem dX5_send_74 : decode cX5_send 74 = .ok (.getfield 28, 3) := dk_180 0 28 (dk_at dksX5_send_3 4 rfl rfl)
theorem dX5_send_77 : decode cX5_send 77 = .ok (.iconst 0, 1) := dk_3 (dk_at dksX5_send_3 7 rfl rfl)
theorem dX5_send_78 : decode cX5_send 78 = .ok (.iconst (-1), 1) := dk_2 (dk_at dksX5_send_3 8 rfl rfl)
theorem dX5_send_79 : decode cX5_send 79 = .ok (.iastore, 1) := dk_79 (dk_at dksX5_send_3 9 rfl rfl)
theorem dX5_send_80 : decode cX5_send 80 = .ok (.aload_n 0, 1) := dk_42 (dk_at dksX5_send_3 10 rfl rfl)
theorem dX5_send_81 : decode cX5_send 81 = .ok (.aload_n 0, 1) := dk_42 (dk_at dksX5_send_3 11 rfl rfl)
theorem dX5_send_82 : decode cX5_send 82 = .ok (.getfield 25, 3) := dk_180 0 25 (dk_at dksX5_send_3 12 rfl rfl)
theorem dX5_send_85 : decode cX5_send 85 = .ok (.iconst 0, 1) := dk_3 (dk_at dksX5_send_3 15 rfl rfl)
theorem dX5_send_86 : decode cX5_send 86 = .ok (.iaload, 1) := dk_46 (dk_at dksX5_send_3 16 rfl rfl)
theorem dX5_send_87 : decode cX5_send 87 = .ok (.iload_n 1, 1) := dk_27 (dk_at dksX5_send_3 17 rfl rfl)
theorem dX5_send_88 : decode cX5_send 88 = .ok (.bipush 100, 2) := dk_16 100 (dk_at dksX5_send_3 18 rfl rfl)
theorem dX5_send_90 : decode cX5_send 90 = .ok (.invokevirtual 167, 3) := dk_182 0 167 (dk_at dksX5_send_3 20 rfl rfl)
theorem dX5_send_93 : decode cX5_send 93 = .ok (.iconst 0, 1) := dk_3 (dk_at dksX5_send_3 23 rfl rfl)
theorem dX5_send_94 : decode cX5_send 94 = .ok (.istore 7, 2) := dk_54 7 (dk_at dksX5_send_4 0 rfl rfl)
theorem dX5_send_96 : decode cX5_send 96 = .ok (.iload 7, 2) := dk_21 7 (dk_at dksX5_send_4 2 rfl rfl)
theorem dX5_send_98 : decode cX5_send 98 = .ok (.iload_n 3, 1) := dk_29 (dk_at dksX5_send_4 4 rfl rfl)
theorem dX5_send_99 : decode cX5_send 99 = .ok (.if_icmp .ge 236, 3) := dk_162 0 236 (dk_at dksX5_send_4 5 rfl rfl)
theorem dX5_send_102 : decode cX5_send 102 = .ok (.aload_n 0, 1) := dk_42 (dk_at dksX5_send_4 8 rfl rfl)
theorem dX5_send_103 : decode cX5_send 103 = .ok (.getfield 25, 3) := dk_180 0 25 (dk_at dksX5_send_4 9 rfl rfl)
theorem dX5_send_106 : decode cX5_send 106 = .ok (.iload 7, 2) := dk_21 7 (dk_at dksX5_send_4 12 rfl rfl)
theorem dX5_send_108 : decode cX5_send 108 = .ok (.iaload, 1) := dk_46 (dk_at dksX5_send_4 14 rfl rfl)
theorem dX5_send_109 : decode cX5_send 109 = .ok (.istore 8, 2) := dk_54 8 (dk_at dksX5_send_4 15 rfl rfl)
theorem dX5_send_111 : decode cX5_send 111 = .ok (.aload_n 0, 1) := dk_42 (dk_at dksX5_send_4 17 rfl rfl)
theorem dX5_send_112 : decode cX5_send 112 = .ok (.iload 8, 2) := dk_21 8 (dk_at dksX5_send_4 18 rfl rfl)
theorem dX5_send_114 : decode cX5_send 114 = .ok (.iload_n 2, 1) := dk_28 (dk_at dksX5_send_4 20 rfl rfl)
theorem dX5_send_115 : decode cX5_send 115 = .ok (.invokevirtual 170, 3) := dk_182 0 170 (dk_at dksX5_send_4 21 rfl rfl)
theorem dX5_send_118 : decode cX5_send 118 = .ok (.istore 9, 2) := dk_54 9 (dk_at dksX5_send_5 0 rfl rfl)
theorem dX5_send_120 : decode cX5_send 120 = .ok (.iload 9, 2) := dk_21 9 (dk_at dksX5_send_5 2 rfl rfl)
theorem dX5_send_122 : decode cX5_send 122 = .ok (.ifCond .lt 35, 3) := dk_155 0 35 (dk_at dksX5_send_5 4 rfl rfl)
theorem dX5_send_125 : decode cX5_send 125 = .ok (.iload 9, 2) := dk_21 9 (dk_at dksX5_send_5 7 rfl rfl)
theorem dX5_send_127 : decode cX5_send 127 = .ok (.bipush 100, 2) := dk_16 100 (dk_at dksX5_send_5 9 rfl rfl)
theorem dX5_send_129 : decode cX5_send 129 = .ok (.if_icmp .ge 28, 3) := dk_162 0 28 (dk_at dksX5_send_5 11 rfl rfl)
theorem dX5_send_132 : decode cX5_send 132 = .ok (.aload_n 0, 1) := dk_42 (dk_at dksX5_send_5 14 rfl rfl)
theorem dX5_send_133 : decode cX5_send 133 = .ok (.iload 9, 2) := dk_21 9 (dk_at dksX5_send_5 15 rfl rfl)
theorem dX5_send_135 : decode cX5_send 135 = .ok (.invokevirtual 66, 3) := dk_182 0 66 (dk_at dksX5_send_5 17 rfl rfl)
theorem dX5_send_138 : decode cX5_send 138 = .ok (.ifCond .eq 19, 3) := dk_153 0 19 (dk_at dksX5_send_5 20 rfl rfl)
theorem dX5_send_141 : decode cX5_send 141 = .ok (.iload 9, 2) := dk_21 9 (dk_at dksX5_send_6 0 rfl rfl)
theorem dX5_send_143 : decode cX5_send 143 = .ok (.aload_n 0, 1) := dk_42 (dk_at dksX5_send_6 2 rfl rfl)
theorem dX5_send_144 : decode cX5_send 144 = .ok (.getfield 28, 3) := dk_180 0 28 (dk_at dksX5_send_6 3 rfl rfl)
theorem dX5_send_147 : decode cX5_send 147 = .ok (.iload 7, 2) := dk_21 7 (dk_at dksX5_send_6 6 rfl rfl)
theorem dX5_send_149 : decode cX5_send 149 = .ok (.iaload, 1) := dk_46 (dk_at dksX5_send_6 8 rfl rfl)
theorem dX5_send_150 : decode cX5_send 150 = .ok (.if_icmp .eq 7, 3) := dk_159 0 7 (dk_at dksX5_send_6 9 rfl rfl)
theorem dX5_send_153 : decode cX5_send 153 = .ok (.iconst 1, 1) := dk_4 (dk_at dksX5_send_6 12 rfl rfl)
theorem dX5_send_154 : decode cX5_send 154 = .ok (.goto 4, 3) := dk_167 0 4 (dk_at dksX5_send_6 13 rfl rfl)
theorem dX5_send_157 : decode cX5_send 157 = .ok (.iconst 0, 1) := dk_3 (dk_at dksX5_send_6 16 rfl rfl)
theorem dX5_send_158 : decode cX5_send 158 = .ok (.istore 10, 2) := dk_54 10 (dk_at dksX5_send_6 17 rfl rfl)
theorem dX5_send_160 : decode cX5_send 160 = .ok (.aload_n 0, 1) := dk_42 (dk_at dksX5_send_6 19 rfl rfl)
theorem dX5_send_161 : decode cX5_send 161 = .ok (.getfield 7, 3) := dk_180 0 7 (dk_at dksX5_send_6 20 rfl rfl)
theorem dX5_send_164 : decode cX5_send 164 = .ok (.sipush 179, 3) := dk_17 0 179 (dk_at dksX5_send_7 0 rfl rfl)
theorem dX5_send_167 : decode cX5_send 167 = .ok (.iload_n 2, 1) := dk_28 (dk_at dksX5_send_7 3 rfl rfl)
theorem dX5_send_168 : decode cX5_send 168 = .ok (.iadd, 1) := dk_96 (dk_at dksX5_send_7 4 rfl rfl)
theorem dX5_send_169 : decode cX5_send 169 = .ok (.iaload, 1) := dk_46 (dk_at dksX5_send_7 5 rfl rfl)
theorem dX5_send_170 : decode cX5_send 170 = .ok (.iload 8, 2) := dk_21 8 (dk_at dksX5_send_7 6 rfl rfl)
theorem dX5_send_172 : decode cX5_send 172 = .ok (.if_icmp .ne 7, 3) := dk_160 0 7 (dk_at dksX5_send_7 8 rfl rfl)
theorem dX5_send_175 : decode cX5_send 175 = .ok (.iconst 1, 1) := dk_4 (dk_at dksX5_send_7 11 rfl rfl)
theorem dX5_send_176 : decode cX5_send 176 = .ok (.goto 4, 3) := dk_167 0 4 (dk_at dksX5_send_7 12 rfl rfl)
theorem dX5_send_179 : decode cX5_send 179 = .ok (.iconst 0, 1) := dk_3 (dk_at dksX5_send_7 15 rfl rfl)
theorem dX5_send_180 : decode cX5_send 180 = .ok (.istore 11, 2) := dk_54 11 (dk_at dksX5_send_7 16 rfl rfl)
theorem dX5_send_182 : decode cX5_send 182 = .ok (.iload 11, 2) := dk_21 11 (dk_at dksX5_send_7 18 rfl rfl)
theorem dX5_send_184 : decode cX5_send 184 = .ok (.ifCond .eq 9, 3) := dk_153 0 9 (dk_at dksX5_send_7 20 rfl rfl)
theorem dX5_send_187 : decode cX5_send 187 = .ok (.sipush 1000, 3) := dk_17 3 232 (dk_at dksX5_send_8 0 rfl rfl)
theorem dX5_send_190 : decode cX5_send 190 = .ok (.goto 5, 3) := dk_167 0 5 (dk_at dksX5_send_8 3 rfl rfl)
theorem dX5_send_193 : decode cX5_send 193 = .ok (.iload 6, 2) := dk_21 6 (dk_at dksX5_send_8 6 rfl rfl)
theorem dX5_send_195 : decode cX5_send 195 = .ok (.istore 6, 2) := dk_54 6 (dk_at dksX5_send_8 8 rfl rfl)
theorem dX5_send_197 : decode cX5_send 197 = .ok (.iconst 0, 1) := dk_3 (dk_at dksX5_send_8 10 rfl rfl)
theorem dX5_send_198 : decode cX5_send 198 = .ok (.istore 12, 2) := dk_54 12 (dk_at dksX5_send_8 11 rfl rfl)
theorem dX5_send_200 : decode cX5_send 200 = .ok (.iload 12, 2) := dk_21 12 (dk_at dksX5_send_8 13 rfl rfl)
theorem dX5_send_202 : decode cX5_send 202 = .ok (.aload_n 0, 1) := dk_42 (dk_at dksX5_send_8 15 rfl rfl)
theorem dX5_send_203 : decode cX5_send 203 = .ok (.getfield 7, 3) := dk_180 0 7 (dk_at dksX5_send_8 16 rfl rfl)
theorem dX5_send_206 : decode cX5_send 206 = .ok (.iconst 5, 1) := dk_8 (dk_at dksX5_send_8 19 rfl rfl)
theorem dX5_send_207 : decode cX5_send 207 = .ok (.iaload, 1) := dk_46 (dk_at dksX5_send_8 20 rfl rfl)
theorem dX5_send_208 : decode cX5_send 208 = .ok (.if_icmp .ge 121, 3) := dk_162 0 121 (dk_at dksX5_send_8 21 rfl rfl)
theorem dX5_send_211 : decode cX5_send 211 = .ok (.iload 11, 2) := dk_21 11 (dk_at dksX5_send_9 0 rfl rfl)
theorem dX5_send_213 : decode cX5_send 213 = .ok (.ifCond .ne 116, 3) := dk_154 0 116 (dk_at dksX5_send_9 2 rfl rfl)
theorem dX5_send_216 : decode cX5_send 216 = .ok (.aload_n 0, 1) := dk_42 (dk_at dksX5_send_9 5 rfl rfl)
theorem dX5_send_217 : decode cX5_send 217 = .ok (.iload 12, 2) := dk_21 12 (dk_at dksX5_send_9 6 rfl rfl)
theorem dX5_send_219 : decode cX5_send 219 = .ok (.iload 8, 2) := dk_21 8 (dk_at dksX5_send_9 8 rfl rfl)
theorem dX5_send_221 : decode cX5_send 221 = .ok (.invokevirtual 149, 3) := dk_182 0 149 (dk_at dksX5_send_9 10 rfl rfl)
theorem dX5_send_224 : decode cX5_send 224 = .ok (.ifCond .eq 99, 3) := dk_153 0 99 (dk_at dksX5_send_9 13 rfl rfl)
theorem dX5_send_227 : decode cX5_send 227 = .ok (.aload_n 0, 1) := dk_42 (dk_at dksX5_send_9 16 rfl rfl)
theorem dX5_send_228 : decode cX5_send 228 = .ok (.iload 12, 2) := dk_21 12 (dk_at dksX5_send_9 17 rfl rfl)
theorem dX5_send_230 : decode cX5_send 230 = .ok (.invokevirtual 66, 3) := dk_182 0 66 (dk_at dksX5_send_9 19 rfl rfl)
theorem dX5_send_233 : decode cX5_send 233 = .ok (.ifCond .eq 90, 3) := dk_153 0 90 (dk_at dksX5_send_10 0 rfl rfl)
theorem dX5_send_236 : decode cX5_send 236 = .ok (.iload 10, 2) := dk_21 10 (dk_at dksX5_send_10 3 rfl rfl)
theorem dX5_send_238 : decode cX5_send 238 = .ok (.ifCond .eq 13, 3) := dk_153 0 13 (dk_at dksX5_send_10 5 rfl rfl)
theorem dX5_send_241 : decode cX5_send 241 = .ok (.iload 12, 2) := dk_21 12 (dk_at dksX5_send_10 8 rfl rfl)
theorem dX5_send_243 : decode cX5_send 243 = .ok (.iload 9, 2) := dk_21 9 (dk_at dksX5_send_10 10 rfl rfl)
theorem dX5_send_245 : decode cX5_send 245 = .ok (.if_icmp .ne 78, 3) := dk_160 0 78 (dk_at dksX5_send_10 12 rfl rfl)
theorem dX5_send_248 : decode cX5_send 248 = .ok (.goto 15, 3) := dk_167 0 15 (dk_at dksX5_send_10 15 rfl rfl)
theorem dX5_send_251 : decode cX5_send 251 = .ok (.iload 12, 2) := dk_21 12 (dk_at dksX5_send_10 18 rfl rfl)
theorem dX5_send_253 : decode cX5_send 253 = .ok (.aload_n 0, 1) := dk_42 (dk_at dksX5_send_10 20 rfl rfl)
theorem dX5_send_254 : decode cX5_send 254 = .ok (.getfield 28, 3) := dk_180 0 28 (dk_at dksX5_send_10 21 rfl rfl)
theorem dX5_send_257 : decode cX5_send 257 = .ok (.iload 7, 2) := dk_21 7 (dk_at dksX5_send_11 0 rfl rfl)
theorem dX5_send_259 : decode cX5_send 259 = .ok (.iaload, 1) := dk_46 (dk_at dksX5_send_11 2 rfl rfl)
theorem dX5_send_260 : decode cX5_send 260 = .ok (.if_icmp .eq 63, 3) := dk_159 0 63 (dk_at dksX5_send_11 3 rfl rfl)
theorem dX5_send_263 : decode cX5_send 263 = .ok (.aload_n 0, 1) := dk_42 (dk_at dksX5_send_11 6 rfl rfl)
theorem dX5_send_264 : decode cX5_send 264 = .ok (.iload 12, 2) := dk_21 12 (dk_at dksX5_send_11 7 rfl rfl)
theorem dX5_send_266 : decode cX5_send 266 = .ok (.iload 8, 2) := dk_21 8 (dk_at dksX5_send_11 9 rfl rfl)
theorem dX5_send_268 : decode cX5_send 268 = .ok (.invokevirtual 146, 3) := dk_182 0 146 (dk_at dksX5_send_11 11 rfl rfl)
theorem dX5_send_271 : decode cX5_send 271 = .ok (.istore 13, 2) := dk_54 13 (dk_at dksX5_send_11 14 rfl rfl)
theorem dX5_send_273 : decode cX5_send 273 = .ok (.iinc 5 1, 3) := dk_132 5 1 (dk_at dksX5_send_11 16 rfl rfl)
theorem dX5_send_276 : decode cX5_send 276 = .ok (.iload 4, 2) := dk_21 4 (dk_at dksX5_send_11 19 rfl rfl)
theorem dX5_send_278 : decode cX5_send 278 = .ok (.iload 13, 2) := dk_21 13 (dk_at dksX5_send_11 21 rfl rfl)
theorem dX5_send_280 : decode cX5_send 280 = .ok (.ishr, 1) := dk_122 (dk_at dksX5_send_11 23 rfl rfl)
theorem dX5_send_281 : decode cX5_send 281 = .ok (.iconst 1, 1) := dk_4 (dk_at dksX5_send_12 0 rfl rfl)
theorem dX5_send_282 : decode cX5_send 282 = .ok (.iand, 1) := dk_126 (dk_at dksX5_send_12 1 rfl rfl)
theorem dX5_send_283 : decode cX5_send 283 = .ok (.ifCond .ne 40, 3) := dk_154 0 40 (dk_at dksX5_send_12 2 rfl rfl)
theorem dX5_send_286 : decode cX5_send 286 = .ok (.iload 4, 2) := dk_21 4 (dk_at dksX5_send_12 5 rfl rfl)
theorem dX5_send_288 : decode cX5_send 288 = .ok (.iconst 1, 1) := dk_4 (dk_at dksX5_send_12 7 rfl rfl)
theorem dX5_send_289 : decode cX5_send 289 = .ok (.iload 13, 2) := dk_21 13 (dk_at dksX5_send_12 8 rfl rfl)
theorem dX5_send_291 : decode cX5_send 291 = .ok (.ishl, 1) := dk_120 (dk_at dksX5_send_12 10 rfl rfl)
theorem dX5_send_292 : decode cX5_send 292 = .ok (.ior, 1) := dk_128 (dk_at dksX5_send_12 11 rfl rfl)
theorem dX5_send_293 : decode cX5_send 293 = .ok (.istore 4, 2) := dk_54 4 (dk_at dksX5_send_12 12 rfl rfl)
theorem dX5_send_295 : decode cX5_send 295 = .ok (.aload_n 0, 1) := dk_42 (dk_at dksX5_send_12 14 rfl rfl)
theorem dX5_send_296 : decode cX5_send 296 = .ok (.getfield 25, 3) := dk_180 0 25 (dk_at dksX5_send_12 15 rfl rfl)
theorem dX5_send_299 : decode cX5_send 299 = .ok (.iload_n 3, 1) := dk_29 (dk_at dksX5_send_12 18 rfl rfl)
theorem dX5_send_300 : decode cX5_send 300 = .ok (.iload 13, 2) := dk_21 13 (dk_at dksX5_send_12 19 rfl rfl)
theorem dX5_send_302 : decode cX5_send 302 = .ok (.iastore, 1) := dk_79 (dk_at dksX5_send_12 21 rfl rfl)
theorem dX5_send_303 : decode cX5_send 303 = .ok (.aload_n 0, 1) := dk_42 (dk_at dksX5_send_12 22 rfl rfl)
theorem dX5_send_304 : decode cX5_send 304 = .ok (.getfield 28, 3) := dk_180 0 28 (dk_at dksX5_send_13 0 rfl rfl)
theorem dX5_send_307 : decode cX5_send 307 = .ok (.iload_n 3, 1) := dk_29 (dk_at dksX5_send_13 3 rfl rfl)
theorem dX5_send_308 : decode cX5_send 308 = .ok (.iload 12, 2) := dk_21 12 (dk_at dksX5_send_13 4 rfl rfl)
theorem dX5_send_310 : decode cX5_send 310 = .ok (.iastore, 1) := dk_79 (dk_at dksX5_send_13 6 rfl rfl)
theorem dX5_send_311 : decode cX5_send 311 = .ok (.iinc 3 1, 3) := dk_132 3 1 (dk_at dksX5_send_13 7 rfl rfl)
theorem dX5_send_314 : decode cX5_send 314 = .ok (.aload_n 0, 1) := dk_42 (dk_at dksX5_send_13 10 rfl rfl)
theorem dX5_send_315 : decode cX5_send 315 = .ok (.iload 13, 2) := dk_21 13 (dk_at dksX5_send_13 11 rfl rfl)
theorem dX5_send_317 : decode cX5_send 317 = .ok (.iload_n 1, 1) := dk_27 (dk_at dksX5_send_13 13 rfl rfl)
theorem dX5_send_318 : decode cX5_send 318 = .ok (.iload 12, 2) := dk_21 12 (dk_at dksX5_send_13 14 rfl rfl)
theorem dX5_send_320 : decode cX5_send 320 = .ok (.invokevirtual 167, 3) := dk_182 0 167 (dk_at dksX5_send_13 16 rfl rfl)
theorem dX5_send_323 : decode cX5_send 323 = .ok (.iinc 12 1, 3) := dk_132 12 1 (dk_at dksX5_send_13 19 rfl rfl)
theorem dX5_send_326 : decode cX5_send 326 = .ok (.goto (-126), 3) := dk_167 255 130 (dk_at dksX5_send_14 0 rfl rfl)
theorem dX5_send_329 : decode cX5_send 329 = .ok (.iinc 7 1, 3) := dk_132 7 1 (dk_at dksX5_send_14 3 rfl rfl)
theorem dX5_send_332 : decode cX5_send 332 = .ok (.goto (-236), 3) := dk_167 255 20 (dk_at dksX5_send_14 6 rfl rfl)
theorem dX5_send_335 : decode cX5_send 335 = .ok (.aload_n 0, 1) := dk_42 (dk_at dksX5_send_14 9 rfl rfl)
theorem dX5_send_336 : decode cX5_send 336 = .ok (.getfield 7, 3) := dk_180 0 7 (dk_at dksX5_send_14 10 rfl rfl)
theorem dX5_send_339 : decode cX5_send 339 = .ok (.bipush 8, 2) := dk_16 8 (dk_at dksX5_send_14 13 rfl rfl)
theorem dX5_send_341 : decode cX5_send 341 = .ok (.dup2, 1) := dk_92 (dk_at dksX5_send_14 15 rfl rfl)
theorem dX5_send_342 : decode cX5_send 342 = .ok (.iaload, 1) := dk_46 (dk_at dksX5_send_14 16 rfl rfl)
theorem dX5_send_343 : decode cX5_send 343 = .ok (.iconst 1, 1) := dk_4 (dk_at dksX5_send_14 17 rfl rfl)
theorem dX5_send_344 : decode cX5_send 344 = .ok (.iadd, 1) := dk_96 (dk_at dksX5_send_14 18 rfl rfl)
theorem dX5_send_345 : decode cX5_send 345 = .ok (.iastore, 1) := dk_79 (dk_at dksX5_send_14 19 rfl rfl)
theorem dX5_send_346 : decode cX5_send 346 = .ok (.aload_n 0, 1) := dk_42 (dk_at dksX5_send_14 20 rfl rfl)
theorem dX5_send_347 : decode cX5_send 347 = .ok (.getfield 7, 3) := dk_180 0 7 (dk_at dksX5_send_14 21 rfl rfl)
theorem dX5_send_350 : decode cX5_send 350 = .ok (.bipush 9, 2) := dk_16 9 (dk_at dksX5_send_15 0 rfl rfl)
theorem dX5_send_352 : decode cX5_send 352 = .ok (.dup2, 1) := dk_92 (dk_at dksX5_send_15 2 rfl rfl)
theorem dX5_send_353 : decode cX5_send 353 = .ok (.iaload, 1) := dk_46 (dk_at dksX5_send_15 3 rfl rfl)
theorem dX5_send_354 : decode cX5_send 354 = .ok (.iload 6, 2) := dk_21 6 (dk_at dksX5_send_15 4 rfl rfl)
theorem dX5_send_356 : decode cX5_send 356 = .ok (.sipush 1000, 3) := dk_17 3 232 (dk_at dksX5_send_15 6 rfl rfl)
theorem dX5_send_359 : decode cX5_send 359 = .ok (.idiv, 1) := dk_108 (dk_at dksX5_send_15 9 rfl rfl)
theorem dX5_send_360 : decode cX5_send 360 = .ok (.iadd, 1) := dk_96 (dk_at dksX5_send_15 10 rfl rfl)
theorem dX5_send_361 : decode cX5_send 361 = .ok (.iastore, 1) := dk_79 (dk_at dksX5_send_15 11 rfl rfl)
theorem dX5_send_362 : decode cX5_send 362 = .ok (.aload_n 0, 1) := dk_42 (dk_at dksX5_send_15 12 rfl rfl)
theorem dX5_send_363 : decode cX5_send 363 = .ok (.getfield 7, 3) := dk_180 0 7 (dk_at dksX5_send_15 13 rfl rfl)
theorem dX5_send_366 : decode cX5_send 366 = .ok (.bipush 10, 2) := dk_16 10 (dk_at dksX5_send_15 16 rfl rfl)
theorem dX5_send_368 : decode cX5_send 368 = .ok (.dup2, 1) := dk_92 (dk_at dksX5_send_15 18 rfl rfl)
theorem dX5_send_369 : decode cX5_send 369 = .ok (.iaload, 1) := dk_46 (dk_at dksX5_send_15 19 rfl rfl)
theorem dX5_send_370 : decode cX5_send 370 = .ok (.iload 5, 2) := dk_21 5 (dk_at dksX5_send_15 20 rfl rfl)
theorem dX5_send_372 : decode cX5_send 372 = .ok (.iadd, 1) := dk_96 (dk_at dksX5_send_15 22 rfl rfl)
theorem dX5_send_373 : decode cX5_send 373 = .ok (.iastore, 1) := dk_79 (dk_at dksX5_send_15 23 rfl rfl)
theorem dX5_send_374 : decode cX5_send 374 = .ok (.aload_n 0, 1) := dk_42 (dk_at dksX5_send_16 0 rfl rfl)
theorem dX5_send_375 : decode cX5_send 375 = .ok (.iload 5, 2) := dk_21 5 (dk_at dksX5_send_16 1 rfl rfl)
theorem dX5_send_377 : decode cX5_send 377 = .ok (.iload 6, 2) := dk_21 6 (dk_at dksX5_send_16 3 rfl rfl)
theorem dX5_send_379 : decode cX5_send 379 = .ok (.iadd, 1) := dk_96 (dk_at dksX5_send_16 5 rfl rfl)
theorem dX5_send_380 : decode cX5_send 380 = .ok (.invokevirtual 76, 3) := dk_182 0 76 (dk_at dksX5_send_16 6 rfl rfl)
theorem dX5_send_383 : decode cX5_send 383 = .ok (.ireturn, 1) := dk_172 (dk_at dksX5_send_16 9 rfl rfl)
abbrev cX5_learns : ByteArray := prog_11_method_52_code
def yX5_learns : MethodName := ⟨RX5, "learns", "(III)V"⟩
def dkwX5_learns_1 : List UInt8 := [16, 16, 27, 104, 96, 5, 28, 104, 96, 4, 96, 42, 180, 0, 7, 4, 46, 79, 177]
abbrev dktX5_learns_1 : List UInt8 := dkwX5_learns_1 ++ []
def dkwX5_learns_0 : List UInt8 := [42, 180, 0, 7, 16, 51, 16, 16, 27, 104, 96, 5, 28, 104, 96, 29, 79, 42, 180, 0, 7, 16, 51]
abbrev dktX5_learns_0 : List UInt8 := dkwX5_learns_0 ++ dktX5_learns_1
theorem dksX5_learns_0 : cX5_learns.data.toList.drop 0 = dktX5_learns_0 := by decide +kernel
theorem dksX5_learns_1 : cX5_learns.data.toList.drop 23 = dktX5_learns_1 := dk_seg dksX5_learns_0 23 rfl rfl
theorem dX5_learns_0 : decode cX5_learns 0 = .ok (.aload_n 0, 1) := dk_42 (dk_at dksX5_learns_0 0 rfl rfl)
theorem dX5_learns_1 : decode cX5_learns 1 = .ok (.getfield 7, 3) := dk_180 0 7 (dk_at dksX5_learns_0 1 rfl rfl)
theorem dX5_learns_4 : decode cX5_learns 4 = .ok (.bipush 51, 2) := dk_16 51 (dk_at dksX5_learns_0 4 rfl rfl)
theorem dX5_learns_6 : decode cX5_learns 6 = .ok (.bipush 16, 2) := dk_16 16 (dk_at dksX5_learns_0 6 rfl rfl)
theorem dX5_learns_8 : decode cX5_learns 8 = .ok (.iload_n 1, 1) := dk_27 (dk_at dksX5_learns_0 8 rfl rfl)
theorem dX5_learns_9 : decode cX5_learns 9 = .ok (.imul, 1) := dk_104 (dk_at dksX5_learns_0 9 rfl rfl)
theorem dX5_learns_10 : decode cX5_learns 10 = .ok (.iadd, 1) := dk_96 (dk_at dksX5_learns_0 10 rfl rfl)
theorem dX5_learns_11 : decode cX5_learns 11 = .ok (.iconst 2, 1) := dk_5 (dk_at dksX5_learns_0 11 rfl rfl)
theorem dX5_learns_12 : decode cX5_learns 12 = .ok (.iload_n 2, 1) := dk_28 (dk_at dksX5_learns_0 12 rfl rfl)
theorem dX5_learns_13 : decode cX5_learns 13 = .ok (.imul, 1) := dk_104 (dk_at dksX5_learns_0 13 rfl rfl)
theorem dX5_learns_14 : decode cX5_learns 14 = .ok (.iadd, 1) := dk_96 (dk_at dksX5_learns_0 14 rfl rfl)
theorem dX5_learns_15 : decode cX5_learns 15 = .ok (.iload_n 3, 1) := dk_29 (dk_at dksX5_learns_0 15 rfl rfl)
theorem dX5_learns_16 : decode cX5_learns 16 = .ok (.iastore, 1) := dk_79 (dk_at dksX5_learns_0 16 rfl rfl)
theorem dX5_learns_17 : decode cX5_learns 17 = .ok (.aload_n 0, 1) := dk_42 (dk_at dksX5_learns_0 17 rfl rfl)
theorem dX5_learns_18 : decode cX5_learns 18 = .ok (.getfield 7, 3) := dk_180 0 7 (dk_at dksX5_learns_0 18 rfl rfl)
theorem dX5_learns_21 : decode cX5_learns 21 = .ok (.bipush 51, 2) := dk_16 51 (dk_at dksX5_learns_0 21 rfl rfl)
theorem dX5_learns_23 : decode cX5_learns 23 = .ok (.bipush 16, 2) := dk_16 16 (dk_at dksX5_learns_1 0 rfl rfl)
theorem dX5_learns_25 : decode cX5_learns 25 = .ok (.iload_n 1, 1) := dk_27 (dk_at dksX5_learns_1 2 rfl rfl)
theorem dX5_learns_26 : decode cX5_learns 26 = .ok (.imul, 1) := dk_104 (dk_at dksX5_learns_1 3 rfl rfl)
theorem dX5_learns_27 : decode cX5_learns 27 = .ok (.iadd, 1) := dk_96 (dk_at dksX5_learns_1 4 rfl rfl)
theorem dX5_learns_28 : decode cX5_learns 28 = .ok (.iconst 2, 1) := dk_5 (dk_at dksX5_learns_1 5 rfl rfl)
theorem dX5_learns_29 : decode cX5_learns 29 = .ok (.iload_n 2, 1) := dk_28 (dk_at dksX5_learns_1 6 rfl rfl)
theorem dX5_learns_30 : decode cX5_learns 30 = .ok (.imul, 1) := dk_104 (dk_at dksX5_learns_1 7 rfl rfl)
theorem dX5_learns_31 : decode cX5_learns 31 = .ok (.iadd, 1) := dk_96 (dk_at dksX5_learns_1 8 rfl rfl)
theorem dX5_learns_32 : decode cX5_learns 32 = .ok (.iconst 1, 1) := dk_4 (dk_at dksX5_learns_1 9 rfl rfl)
theorem dX5_learns_33 : decode cX5_learns 33 = .ok (.iadd, 1) := dk_96 (dk_at dksX5_learns_1 10 rfl rfl)
theorem dX5_learns_34 : decode cX5_learns 34 = .ok (.aload_n 0, 1) := dk_42 (dk_at dksX5_learns_1 11 rfl rfl)
theorem dX5_learns_35 : decode cX5_learns 35 = .ok (.getfield 7, 3) := dk_180 0 7 (dk_at dksX5_learns_1 12 rfl rfl)
theorem dX5_learns_38 : decode cX5_learns 38 = .ok (.iconst 1, 1) := dk_4 (dk_at dksX5_learns_1 15 rfl rfl)
theorem dX5_learns_39 : decode cX5_learns 39 = .ok (.iaload, 1) := dk_46 (dk_at dksX5_learns_1 16 rfl rfl)
theorem dX5_learns_40 : decode cX5_learns 40 = .ok (.iastore, 1) := dk_79 (dk_at dksX5_learns_1 17 rfl rfl)
theorem dX5_learns_41 : decode cX5_learns 41 = .ok (.return_, 1) := dk_177 (dk_at dksX5_learns_1 18 rfl rfl)
abbrev cX5_entryOf : ByteArray := prog_11_method_53_code
def yX5_entryOf : MethodName := ⟨RX5, "entryOf", "(II)I"⟩
def dkwX5_entryOf_2 : List UInt8 := [16, 50, 163, 0, 7, 29, 167, 0, 4, 2, 172]
abbrev dktX5_entryOf_2 : List UInt8 := dkwX5_entryOf_2 ++ []
def dkwX5_entryOf_1 : List UInt8 := [180, 0, 7, 4, 46, 42, 180, 0, 7, 16, 51, 16, 16, 27, 104, 96, 5, 28, 104, 96, 4, 96, 46, 100]
abbrev dktX5_entryOf_1 : List UInt8 := dkwX5_entryOf_1 ++ dktX5_entryOf_2
def dkwX5_entryOf_0 : List UInt8 := [42, 180, 0, 7, 16, 51, 16, 16, 27, 104, 96, 5, 28, 104, 96, 46, 62, 29, 2, 159, 0, 37, 42]
abbrev dktX5_entryOf_0 : List UInt8 := dkwX5_entryOf_0 ++ dktX5_entryOf_1
theorem dksX5_entryOf_0 : cX5_entryOf.data.toList.drop 0 = dktX5_entryOf_0 := by decide +kernel
theorem dksX5_entryOf_1 : cX5_entryOf.data.toList.drop 23 = dktX5_entryOf_1 := dk_seg dksX5_entryOf_0 23 rfl rfl
theorem dksX5_entryOf_2 : cX5_entryOf.data.toList.drop 47 = dktX5_entryOf_2 := dk_seg dksX5_entryOf_1 24 rfl rfl
theorem dX5_entryOf_0 : decode cX5_entryOf 0 = .ok (.aload_n 0, 1) := dk_42 (dk_at dksX5_entryOf_0 0 rfl rfl)
theorem dX5_entryOf_1 : decode cX5_entryOf 1 = .ok (.getfield 7, 3) := dk_180 0 7 (dk_at dksX5_entryOf_0 1 rfl rfl)
theorem dX5_entryOf_4 : decode cX5_entryOf 4 = .ok (.bipush 51, 2) := dk_16 51 (dk_at dksX5_entryOf_0 4 rfl rfl)
theorem dX5_entryOf_6 : decode cX5_entryOf 6 = .ok (.bipush 16, 2) := dk_16 16 (dk_at dksX5_entryOf_0 6 rfl rfl)
theorem dX5_entryOf_8 : decode cX5_entryOf 8 = .ok (.iload_n 1, 1) := dk_27 (dk_at dksX5_entryOf_0 8 rfl rfl)
theorem dX5_entryOf_9 : decode cX5_entryOf 9 = .ok (.imul, 1) := dk_104 (dk_at dksX5_entryOf_0 9 rfl rfl)
theorem dX5_entryOf_10 : decode cX5_entryOf 10 = .ok (.iadd, 1) := dk_96 (dk_at dksX5_entryOf_0 10 rfl rfl)
theorem dX5_entryOf_11 : decode cX5_entryOf 11 = .ok (.iconst 2, 1) := dk_5 (dk_at dksX5_entryOf_0 11 rfl rfl)
theorem dX5_entryOf_12 : decode cX5_entryOf 12 = .ok (.iload_n 2, 1) := dk_28 (dk_at dksX5_entryOf_0 12 rfl rfl)
theorem dX5_entryOf_13 : decode cX5_entryOf 13 = .ok (.imul, 1) := dk_104 (dk_at dksX5_entryOf_0 13 rfl rfl)
theorem dX5_entryOf_14 : decode cX5_entryOf 14 = .ok (.iadd, 1) := dk_96 (dk_at dksX5_entryOf_0 14 rfl rfl)
theorem dX5_entryOf_15 : decode cX5_entryOf 15 = .ok (.iaload, 1) := dk_46 (dk_at dksX5_entryOf_0 15 rfl rfl)
theorem dX5_entryOf_16 : decode cX5_entryOf 16 = .ok (.istore_n 3, 1) := dk_62 (dk_at dksX5_entryOf_0 16 rfl rfl)
theorem dX5_entryOf_17 : decode cX5_entryOf 17 = .ok (.iload_n 3, 1) := dk_29 (dk_at dksX5_entryOf_0 17 rfl rfl)
theorem dX5_entryOf_18 : decode cX5_entryOf 18 = .ok (.iconst (-1), 1) := dk_2 (dk_at dksX5_entryOf_0 18 rfl rfl)
theorem dX5_entryOf_19 : decode cX5_entryOf 19 = .ok (.if_icmp .eq 37, 3) := dk_159 0 37 (dk_at dksX5_entryOf_0 19 rfl rfl)
theorem dX5_entryOf_22 : decode cX5_entryOf 22 = .ok (.aload_n 0, 1) := dk_42 (dk_at dksX5_entryOf_0 22 rfl rfl)
theorem dX5_entryOf_23 : decode cX5_entryOf 23 = .ok (.getfield 7, 3) := dk_180 0 7 (dk_at dksX5_entryOf_1 0 rfl rfl)
theorem dX5_entryOf_26 : decode cX5_entryOf 26 = .ok (.iconst 1, 1) := dk_4 (dk_at dksX5_entryOf_1 3 rfl rfl)
theorem dX5_entryOf_27 : decode cX5_entryOf 27 = .ok (.iaload, 1) := dk_46 (dk_at dksX5_entryOf_1 4 rfl rfl)
theorem dX5_entryOf_28 : decode cX5_entryOf 28 = .ok (.aload_n 0, 1) := dk_42 (dk_at dksX5_entryOf_1 5 rfl rfl)
theorem dX5_entryOf_29 : decode cX5_entryOf 29 = .ok (.getfield 7, 3) := dk_180 0 7 (dk_at dksX5_entryOf_1 6 rfl rfl)
theorem dX5_entryOf_32 : decode cX5_entryOf 32 = .ok (.bipush 51, 2) := dk_16 51 (dk_at dksX5_entryOf_1 9 rfl rfl)
theorem dX5_entryOf_34 : decode cX5_entryOf 34 = .ok (.bipush 16, 2) := dk_16 16 (dk_at dksX5_entryOf_1 11 rfl rfl)
theorem dX5_entryOf_36 : decode cX5_entryOf 36 = .ok (.iload_n 1, 1) := dk_27 (dk_at dksX5_entryOf_1 13 rfl rfl)
theorem dX5_entryOf_37 : decode cX5_entryOf 37 = .ok (.imul, 1) := dk_104 (dk_at dksX5_entryOf_1 14 rfl rfl)
theorem dX5_entryOf_38 : decode cX5_entryOf 38 = .ok (.iadd, 1) := dk_96 (dk_at dksX5_entryOf_1 15 rfl rfl)
theorem dX5_entryOf_39 : decode cX5_entryOf 39 = .ok (.iconst 2, 1) := dk_5 (dk_at dksX5_entryOf_1 16 rfl rfl)
theorem dX5_entryOf_40 : decode cX5_entryOf 40 = .ok (.iload_n 2, 1) := dk_28 (dk_at dksX5_entryOf_1 17 rfl rfl)
theorem dX5_entryOf_41 : decode cX5_entryOf 41 = .ok (.imul, 1) := dk_104 (dk_at dksX5_entryOf_1 18 rfl rfl)
theorem dX5_entryOf_42 : decode cX5_entryOf 42 = .ok (.iadd, 1) := dk_96 (dk_at dksX5_entryOf_1 19 rfl rfl)
theorem dX5_entryOf_43 : decode cX5_entryOf 43 = .ok (.iconst 1, 1) := dk_4 (dk_at dksX5_entryOf_1 20 rfl rfl)
theorem dX5_entryOf_44 : decode cX5_entryOf 44 = .ok (.iadd, 1) := dk_96 (dk_at dksX5_entryOf_1 21 rfl rfl)
theorem dX5_entryOf_45 : decode cX5_entryOf 45 = .ok (.iaload, 1) := dk_46 (dk_at dksX5_entryOf_1 22 rfl rfl)
theorem dX5_entryOf_46 : decode cX5_entryOf 46 = .ok (.isub, 1) := dk_100 (dk_at dksX5_entryOf_1 23 rfl rfl)
theorem dX5_entryOf_47 : decode cX5_entryOf 47 = .ok (.bipush 50, 2) := dk_16 50 (dk_at dksX5_entryOf_2 0 rfl rfl)
theorem dX5_entryOf_49 : decode cX5_entryOf 49 = .ok (.if_icmp .gt 7, 3) := dk_163 0 7 (dk_at dksX5_entryOf_2 2 rfl rfl)
theorem dX5_entryOf_52 : decode cX5_entryOf 52 = .ok (.iload_n 3, 1) := dk_29 (dk_at dksX5_entryOf_2 5 rfl rfl)
theorem dX5_entryOf_53 : decode cX5_entryOf 53 = .ok (.goto 4, 3) := dk_167 0 4 (dk_at dksX5_entryOf_2 6 rfl rfl)
theorem dX5_entryOf_56 : decode cX5_entryOf 56 = .ok (.iconst (-1), 1) := dk_2 (dk_at dksX5_entryOf_2 9 rfl rfl)
theorem dX5_entryOf_57 : decode cX5_entryOf 57 = .ok (.ireturn, 1) := dk_172 (dk_at dksX5_entryOf_2 10 rfl rfl)
abbrev cX5_bridge : ByteArray := prog_11_method_57_code
def yX5_bridge : MethodName := ⟨RX5, "bridge", "(II)I"⟩
def dkwX5_bridge_1 : List UInt8 := [42, 27, 28, 182, 0, 176, 182, 0, 45, 167, 0, 8, 42, 5, 182, 0, 70, 172]
abbrev dktX5_bridge_1 : List UInt8 := dkwX5_bridge_1 ++ []
def dkwX5_bridge_0 : List UInt8 := [42, 27, 182, 0, 79, 154, 0, 9, 42, 4, 182, 0, 70, 172, 28, 3, 8, 184, 0, 49, 153, 0, 16, 42]
abbrev dktX5_bridge_0 : List UInt8 := dkwX5_bridge_0 ++ dktX5_bridge_1
theorem dksX5_bridge_0 : cX5_bridge.data.toList.drop 0 = dktX5_bridge_0 := by decide +kernel
theorem dksX5_bridge_1 : cX5_bridge.data.toList.drop 24 = dktX5_bridge_1 := dk_seg dksX5_bridge_0 24 rfl rfl
theorem dX5_bridge_0 : decode cX5_bridge 0 = .ok (.aload_n 0, 1) := dk_42 (dk_at dksX5_bridge_0 0 rfl rfl)
theorem dX5_bridge_1 : decode cX5_bridge 1 = .ok (.iload_n 1, 1) := dk_27 (dk_at dksX5_bridge_0 1 rfl rfl)
theorem dX5_bridge_2 : decode cX5_bridge 2 = .ok (.invokevirtual 79, 3) := dk_182 0 79 (dk_at dksX5_bridge_0 2 rfl rfl)
theorem dX5_bridge_5 : decode cX5_bridge 5 = .ok (.ifCond .ne 9, 3) := dk_154 0 9 (dk_at dksX5_bridge_0 5 rfl rfl)
theorem dX5_bridge_8 : decode cX5_bridge 8 = .ok (.aload_n 0, 1) := dk_42 (dk_at dksX5_bridge_0 8 rfl rfl)
theorem dX5_bridge_9 : decode cX5_bridge 9 = .ok (.iconst 1, 1) := dk_4 (dk_at dksX5_bridge_0 9 rfl rfl)
theorem dX5_bridge_10 : decode cX5_bridge 10 = .ok (.invokevirtual 70, 3) := dk_182 0 70 (dk_at dksX5_bridge_0 10 rfl rfl)
theorem dX5_bridge_13 : decode cX5_bridge 13 = .ok (.ireturn, 1) := dk_172 (dk_at dksX5_bridge_0 13 rfl rfl)
theorem dX5_bridge_14 : decode cX5_bridge 14 = .ok (.iload_n 2, 1) := dk_28 (dk_at dksX5_bridge_0 14 rfl rfl)
theorem dX5_bridge_15 : decode cX5_bridge 15 = .ok (.iconst 0, 1) := dk_3 (dk_at dksX5_bridge_0 15 rfl rfl)
theorem dX5_bridge_16 : decode cX5_bridge 16 = .ok (.iconst 5, 1) := dk_8 (dk_at dksX5_bridge_0 16 rfl rfl)
theorem dX5_bridge_17 : decode cX5_bridge 17 = .ok (.invokestatic 49, 3) := dk_184 0 49 (dk_at dksX5_bridge_0 17 rfl rfl)
theorem dX5_bridge_20 : decode cX5_bridge 20 = .ok (.ifCond .eq 16, 3) := dk_153 0 16 (dk_at dksX5_bridge_0 20 rfl rfl)
theorem dX5_bridge_23 : decode cX5_bridge 23 = .ok (.aload_n 0, 1) := dk_42 (dk_at dksX5_bridge_0 23 rfl rfl)
theorem dX5_bridge_24 : decode cX5_bridge 24 = .ok (.aload_n 0, 1) := dk_42 (dk_at dksX5_bridge_1 0 rfl rfl)
theorem dX5_bridge_25 : decode cX5_bridge 25 = .ok (.iload_n 1, 1) := dk_27 (dk_at dksX5_bridge_1 1 rfl rfl)
theorem dX5_bridge_26 : decode cX5_bridge 26 = .ok (.iload_n 2, 1) := dk_28 (dk_at dksX5_bridge_1 2 rfl rfl)
theorem dX5_bridge_27 : decode cX5_bridge 27 = .ok (.invokevirtual 176, 3) := dk_182 0 176 (dk_at dksX5_bridge_1 3 rfl rfl)
theorem dX5_bridge_30 : decode cX5_bridge 30 = .ok (.invokevirtual 45, 3) := dk_182 0 45 (dk_at dksX5_bridge_1 6 rfl rfl)
theorem dX5_bridge_33 : decode cX5_bridge 33 = .ok (.goto 8, 3) := dk_167 0 8 (dk_at dksX5_bridge_1 9 rfl rfl)
theorem dX5_bridge_36 : decode cX5_bridge 36 = .ok (.aload_n 0, 1) := dk_42 (dk_at dksX5_bridge_1 12 rfl rfl)
theorem dX5_bridge_37 : decode cX5_bridge 37 = .ok (.iconst 2, 1) := dk_5 (dk_at dksX5_bridge_1 13 rfl rfl)
theorem dX5_bridge_38 : decode cX5_bridge 38 = .ok (.invokevirtual 70, 3) := dk_182 0 70 (dk_at dksX5_bridge_1 14 rfl rfl)
theorem dX5_bridge_41 : decode cX5_bridge 41 = .ok (.ireturn, 1) := dk_172 (dk_at dksX5_bridge_1 17 rfl rfl)
abbrev cX5_bridgeValue : ByteArray := prog_11_method_56_code
def yX5_bridgeValue : MethodName := ⟨RX5, "bridgeValue", "(II)I"⟩
def dkwX5_bridgeValue_1 : List UInt8 := [167, 0, 16, 42, 180, 0, 7, 16, 11, 8, 27, 104, 96, 28, 96, 46, 172]
abbrev dktX5_bridgeValue_1 : List UInt8 := dkwX5_bridgeValue_1 ++ []
def dkwX5_bridgeValue_0 : List UInt8 := [28, 154, 0, 11, 42, 27, 182, 0, 53, 167, 0, 29, 28, 8, 160, 0, 11, 42, 27, 182, 0, 173]
abbrev dktX5_bridgeValue_0 : List UInt8 := dkwX5_bridgeValue_0 ++ dktX5_bridgeValue_1
theorem dksX5_bridgeValue_0 : cX5_bridgeValue.data.toList.drop 0 = dktX5_bridgeValue_0 := by decide +kernel
theorem dksX5_bridgeValue_1 : cX5_bridgeValue.data.toList.drop 22 = dktX5_bridgeValue_1 := dk_seg dksX5_bridgeValue_0 22 rfl rfl
theorem dX5_bridgeValue_0 : decode cX5_bridgeValue 0 = .ok (.iload_n 2, 1) := dk_28 (dk_at dksX5_bridgeValue_0 0 rfl rfl)
theorem dX5_bridgeValue_1 : decode cX5_bridgeValue 1 = .ok (.ifCond .ne 11, 3) := dk_154 0 11 (dk_at dksX5_bridgeValue_0 1 rfl rfl)
theorem dX5_bridgeValue_4 : decode cX5_bridgeValue 4 = .ok (.aload_n 0, 1) := dk_42 (dk_at dksX5_bridgeValue_0 4 rfl rfl)
theorem dX5_bridgeValue_5 : decode cX5_bridgeValue 5 = .ok (.iload_n 1, 1) := dk_27 (dk_at dksX5_bridgeValue_0 5 rfl rfl)
theorem dX5_bridgeValue_6 : decode cX5_bridgeValue 6 = .ok (.invokevirtual 53, 3) := dk_182 0 53 (dk_at dksX5_bridgeValue_0 6 rfl rfl)
theorem dX5_bridgeValue_9 : decode cX5_bridgeValue 9 = .ok (.goto 29, 3) := dk_167 0 29 (dk_at dksX5_bridgeValue_0 9 rfl rfl)
theorem dX5_bridgeValue_12 : decode cX5_bridgeValue 12 = .ok (.iload_n 2, 1) := dk_28 (dk_at dksX5_bridgeValue_0 12 rfl rfl)
theorem dX5_bridgeValue_13 : decode cX5_bridgeValue 13 = .ok (.iconst 5, 1) := dk_8 (dk_at dksX5_bridgeValue_0 13 rfl rfl)
theorem dX5_bridgeValue_14 : decode cX5_bridgeValue 14 = .ok (.if_icmp .ne 11, 3) := dk_160 0 11 (dk_at dksX5_bridgeValue_0 14 rfl rfl)
theorem dX5_bridgeValue_17 : decode cX5_bridgeValue 17 = .ok (.aload_n 0, 1) := dk_42 (dk_at dksX5_bridgeValue_0 17 rfl rfl)
theorem dX5_bridgeValue_18 : decode cX5_bridgeValue 18 = .ok (.iload_n 1, 1) := dk_27 (dk_at dksX5_bridgeValue_0 18 rfl rfl)
theorem dX5_bridgeValue_19 : decode cX5_bridgeValue 19 = .ok (.invokevirtual 173, 3) := dk_182 0 173 (dk_at dksX5_bridgeValue_0 19 rfl rfl)
theorem dX5_bridgeValue_22 : decode cX5_bridgeValue 22 = .ok (.goto 16, 3) := dk_167 0 16 (dk_at dksX5_bridgeValue_1 0 rfl rfl)
theorem dX5_bridgeValue_25 : decode cX5_bridgeValue 25 = .ok (.aload_n 0, 1) := dk_42 (dk_at dksX5_bridgeValue_1 3 rfl rfl)
theorem dX5_bridgeValue_26 : decode cX5_bridgeValue 26 = .ok (.getfield 7, 3) := dk_180 0 7 (dk_at dksX5_bridgeValue_1 4 rfl rfl)
theorem dX5_bridgeValue_29 : decode cX5_bridgeValue 29 = .ok (.bipush 11, 2) := dk_16 11 (dk_at dksX5_bridgeValue_1 7 rfl rfl)
theorem dX5_bridgeValue_31 : decode cX5_bridgeValue 31 = .ok (.iconst 5, 1) := dk_8 (dk_at dksX5_bridgeValue_1 9 rfl rfl)
theorem dX5_bridgeValue_32 : decode cX5_bridgeValue 32 = .ok (.iload_n 1, 1) := dk_27 (dk_at dksX5_bridgeValue_1 10 rfl rfl)
theorem dX5_bridgeValue_33 : decode cX5_bridgeValue 33 = .ok (.imul, 1) := dk_104 (dk_at dksX5_bridgeValue_1 11 rfl rfl)
theorem dX5_bridgeValue_34 : decode cX5_bridgeValue 34 = .ok (.iadd, 1) := dk_96 (dk_at dksX5_bridgeValue_1 12 rfl rfl)
theorem dX5_bridgeValue_35 : decode cX5_bridgeValue 35 = .ok (.iload_n 2, 1) := dk_28 (dk_at dksX5_bridgeValue_1 13 rfl rfl)
theorem dX5_bridgeValue_36 : decode cX5_bridgeValue 36 = .ok (.iadd, 1) := dk_96 (dk_at dksX5_bridgeValue_1 14 rfl rfl)
theorem dX5_bridgeValue_37 : decode cX5_bridgeValue 37 = .ok (.iaload, 1) := dk_46 (dk_at dksX5_bridgeValue_1 15 rfl rfl)
theorem dX5_bridgeValue_38 : decode cX5_bridgeValue 38 = .ok (.ireturn, 1) := dk_172 (dk_at dksX5_bridgeValue_1 16 rfl rfl)
abbrev cX5_entries : ByteArray := prog_11_method_55_code
def yX5_entries : MethodName := ⟨RX5, "entries", "(I)I"⟩
def dkwX5_entries_1 : List UInt8 := [104, 96, 46, 2, 159, 0, 7, 4, 167, 0, 4, 3, 96, 61, 132, 3, 1, 167, 255, 219, 28, 172]
abbrev dktX5_entries_1 : List UInt8 := dkwX5_entries_1 ++ []
def dkwX5_entries_0 : List UInt8 := [3, 61, 3, 62, 29, 16, 8, 162, 0, 37, 28, 42, 180, 0, 7, 16, 51, 16, 16, 27, 104, 96, 5, 29]
abbrev dktX5_entries_0 : List UInt8 := dkwX5_entries_0 ++ dktX5_entries_1
theorem dksX5_entries_0 : cX5_entries.data.toList.drop 0 = dktX5_entries_0 := by decide +kernel
theorem dksX5_entries_1 : cX5_entries.data.toList.drop 24 = dktX5_entries_1 := dk_seg dksX5_entries_0 24 rfl rfl
theorem dX5_entries_0 : decode cX5_entries 0 = .ok (.iconst 0, 1) := dk_3 (dk_at dksX5_entries_0 0 rfl rfl)
theorem dX5_entries_1 : decode cX5_entries 1 = .ok (.istore_n 2, 1) := dk_61 (dk_at dksX5_entries_0 1 rfl rfl)
theorem dX5_entries_2 : decode cX5_entries 2 = .ok (.iconst 0, 1) := dk_3 (dk_at dksX5_entries_0 2 rfl rfl)
theorem dX5_entries_3 : decode cX5_entries 3 = .ok (.istore_n 3, 1) := dk_62 (dk_at dksX5_entries_0 3 rfl rfl)
theorem dX5_entries_4 : decode cX5_entries 4 = .ok (.iload_n 3, 1) := dk_29 (dk_at dksX5_entries_0 4 rfl rfl)
theorem dX5_entries_5 : decode cX5_entries 5 = .ok (.bipush 8, 2) := dk_16 8 (dk_at dksX5_entries_0 5 rfl rfl)
theorem dX5_entries_7 : decode cX5_entries 7 = .ok (.if_icmp .ge 37, 3) := dk_162 0 37 (dk_at dksX5_entries_0 7 rfl rfl)
theorem dX5_entries_10 : decode cX5_entries 10 = .ok (.iload_n 2, 1) := dk_28 (dk_at dksX5_entries_0 10 rfl rfl)
theorem dX5_entries_11 : decode cX5_entries 11 = .ok (.aload_n 0, 1) := dk_42 (dk_at dksX5_entries_0 11 rfl rfl)
theorem dX5_entries_12 : decode cX5_entries 12 = .ok (.getfield 7, 3) := dk_180 0 7 (dk_at dksX5_entries_0 12 rfl rfl)
theorem dX5_entries_15 : decode cX5_entries 15 = .ok (.bipush 51, 2) := dk_16 51 (dk_at dksX5_entries_0 15 rfl rfl)
theorem dX5_entries_17 : decode cX5_entries 17 = .ok (.bipush 16, 2) := dk_16 16 (dk_at dksX5_entries_0 17 rfl rfl)
theorem dX5_entries_19 : decode cX5_entries 19 = .ok (.iload_n 1, 1) := dk_27 (dk_at dksX5_entries_0 19 rfl rfl)
theorem dX5_entries_20 : decode cX5_entries 20 = .ok (.imul, 1) := dk_104 (dk_at dksX5_entries_0 20 rfl rfl)
theorem dX5_entries_21 : decode cX5_entries 21 = .ok (.iadd, 1) := dk_96 (dk_at dksX5_entries_0 21 rfl rfl)
theorem dX5_entries_22 : decode cX5_entries 22 = .ok (.iconst 2, 1) := dk_5 (dk_at dksX5_entries_0 22 rfl rfl)
theorem dX5_entries_23 : decode cX5_entries 23 = .ok (.iload_n 3, 1) := dk_29 (dk_at dksX5_entries_0 23 rfl rfl)
theorem dX5_entries_24 : decode cX5_entries 24 = .ok (.imul, 1) := dk_104 (dk_at dksX5_entries_1 0 rfl rfl)
theorem dX5_entries_25 : decode cX5_entries 25 = .ok (.iadd, 1) := dk_96 (dk_at dksX5_entries_1 1 rfl rfl)
theorem dX5_entries_26 : decode cX5_entries 26 = .ok (.iaload, 1) := dk_46 (dk_at dksX5_entries_1 2 rfl rfl)
theorem dX5_entries_27 : decode cX5_entries 27 = .ok (.iconst (-1), 1) := dk_2 (dk_at dksX5_entries_1 3 rfl rfl)
theorem dX5_entries_28 : decode cX5_entries 28 = .ok (.if_icmp .eq 7, 3) := dk_159 0 7 (dk_at dksX5_entries_1 4 rfl rfl)
theorem dX5_entries_31 : decode cX5_entries 31 = .ok (.iconst 1, 1) := dk_4 (dk_at dksX5_entries_1 7 rfl rfl)
theorem dX5_entries_32 : decode cX5_entries 32 = .ok (.goto 4, 3) := dk_167 0 4 (dk_at dksX5_entries_1 8 rfl rfl)
theorem dX5_entries_35 : decode cX5_entries 35 = .ok (.iconst 0, 1) := dk_3 (dk_at dksX5_entries_1 11 rfl rfl)
theorem dX5_entries_36 : decode cX5_entries 36 = .ok (.iadd, 1) := dk_96 (dk_at dksX5_entries_1 12 rfl rfl)
theorem dX5_entries_37 : decode cX5_entries 37 = .ok (.istore_n 2, 1) := dk_61 (dk_at dksX5_entries_1 13 rfl rfl)
theorem dX5_entries_38 : decode cX5_entries 38 = .ok (.iinc 3 1, 3) := dk_132 3 1 (dk_at dksX5_entries_1 14 rfl rfl)
theorem dX5_entries_41 : decode cX5_entries 41 = .ok (.goto (-37), 3) := dk_167 255 219 (dk_at dksX5_entries_1 17 rfl rfl)
theorem dX5_entries_44 : decode cX5_entries 44 = .ok (.iload_n 2, 1) := dk_28 (dk_at dksX5_entries_1 20 rfl rfl)
theorem dX5_entries_45 : decode cX5_entries 45 = .ok (.ireturn, 1) := dk_172 (dk_at dksX5_entries_1 21 rfl rfl)
abbrev cX5_links : ByteArray := prog_11_method_58_code
def yX5_links : MethodName := ⟨RX5, "links", "()I"⟩
def dkwX5_links_0 : List UInt8 := [42, 42, 180, 0, 7, 8, 46, 182, 0, 45, 172]
abbrev dktX5_links_0 : List UInt8 := dkwX5_links_0 ++ []
theorem dksX5_links_0 : cX5_links.data.toList.drop 0 = dktX5_links_0 := by decide +kernel
theorem dX5_links_0 : decode cX5_links 0 = .ok (.aload_n 0, 1) := dk_42 (dk_at dksX5_links_0 0 rfl rfl)
theorem dX5_links_1 : decode cX5_links 1 = .ok (.aload_n 0, 1) := dk_42 (dk_at dksX5_links_0 1 rfl rfl)
theorem dX5_links_2 : decode cX5_links 2 = .ok (.getfield 7, 3) := dk_180 0 7 (dk_at dksX5_links_0 2 rfl rfl)
theorem dX5_links_5 : decode cX5_links 5 = .ok (.iconst 5, 1) := dk_8 (dk_at dksX5_links_0 5 rfl rfl)
theorem dX5_links_6 : decode cX5_links 6 = .ok (.iaload, 1) := dk_46 (dk_at dksX5_links_0 6 rfl rfl)
theorem dX5_links_7 : decode cX5_links 7 = .ok (.invokevirtual 45, 3) := dk_182 0 45 (dk_at dksX5_links_0 7 rfl rfl)
theorem dX5_links_10 : decode cX5_links 10 = .ok (.ireturn, 1) := dk_172 (dk_at dksX5_links_0 10 rfl rfl)
abbrev cX5_link : ByteArray := prog_11_method_60_code
def yX5_link : MethodName := ⟨RX5, "link", "(II)I"⟩
def dkwX5_link_1 : List UInt8 := [42, 42, 27, 28, 182, 0, 179, 182, 0, 45, 167, 0, 8, 42, 5, 182, 0, 70, 172]
abbrev dktX5_link_1 : List UInt8 := dkwX5_link_1 ++ []
def dkwX5_link_0 : List UInt8 := [42, 27, 182, 0, 89, 154, 0, 9, 42, 4, 182, 0, 70, 172, 28, 3, 16, 8, 184, 0, 49, 153, 0, 16]
abbrev dktX5_link_0 : List UInt8 := dkwX5_link_0 ++ dktX5_link_1
theorem dksX5_link_0 : cX5_link.data.toList.drop 0 = dktX5_link_0 := by decide +kernel
theorem dksX5_link_1 : cX5_link.data.toList.drop 24 = dktX5_link_1 := dk_seg dksX5_link_0 24 rfl rfl
theorem dX5_link_0 : decode cX5_link 0 = .ok (.aload_n 0, 1) := dk_42 (dk_at dksX5_link_0 0 rfl rfl)
theorem dX5_link_1 : decode cX5_link 1 = .ok (.iload_n 1, 1) := dk_27 (dk_at dksX5_link_0 1 rfl rfl)
theorem dX5_link_2 : decode cX5_link 2 = .ok (.invokevirtual 89, 3) := dk_182 0 89 (dk_at dksX5_link_0 2 rfl rfl)
theorem dX5_link_5 : decode cX5_link 5 = .ok (.ifCond .ne 9, 3) := dk_154 0 9 (dk_at dksX5_link_0 5 rfl rfl)
theorem dX5_link_8 : decode cX5_link 8 = .ok (.aload_n 0, 1) := dk_42 (dk_at dksX5_link_0 8 rfl rfl)
theorem dX5_link_9 : decode cX5_link 9 = .ok (.iconst 1, 1) := dk_4 (dk_at dksX5_link_0 9 rfl rfl)
theorem dX5_link_10 : decode cX5_link 10 = .ok (.invokevirtual 70, 3) := dk_182 0 70 (dk_at dksX5_link_0 10 rfl rfl)
theorem dX5_link_13 : decode cX5_link 13 = .ok (.ireturn, 1) := dk_172 (dk_at dksX5_link_0 13 rfl rfl)
theorem dX5_link_14 : decode cX5_link 14 = .ok (.iload_n 2, 1) := dk_28 (dk_at dksX5_link_0 14 rfl rfl)
theorem dX5_link_15 : decode cX5_link 15 = .ok (.iconst 0, 1) := dk_3 (dk_at dksX5_link_0 15 rfl rfl)
theorem dX5_link_16 : decode cX5_link 16 = .ok (.bipush 8, 2) := dk_16 8 (dk_at dksX5_link_0 16 rfl rfl)
theorem dX5_link_18 : decode cX5_link 18 = .ok (.invokestatic 49, 3) := dk_184 0 49 (dk_at dksX5_link_0 18 rfl rfl)
theorem dX5_link_21 : decode cX5_link 21 = .ok (.ifCond .eq 16, 3) := dk_153 0 16 (dk_at dksX5_link_0 21 rfl rfl)
theorem dX5_link_24 : decode cX5_link 24 = .ok (.aload_n 0, 1) := dk_42 (dk_at dksX5_link_1 0 rfl rfl)
theorem dX5_link_25 : decode cX5_link 25 = .ok (.aload_n 0, 1) := dk_42 (dk_at dksX5_link_1 1 rfl rfl)
theorem dX5_link_26 : decode cX5_link 26 = .ok (.iload_n 1, 1) := dk_27 (dk_at dksX5_link_1 2 rfl rfl)
theorem dX5_link_27 : decode cX5_link 27 = .ok (.iload_n 2, 1) := dk_28 (dk_at dksX5_link_1 3 rfl rfl)
theorem dX5_link_28 : decode cX5_link 28 = .ok (.invokevirtual 179, 3) := dk_182 0 179 (dk_at dksX5_link_1 4 rfl rfl)
theorem dX5_link_31 : decode cX5_link 31 = .ok (.invokevirtual 45, 3) := dk_182 0 45 (dk_at dksX5_link_1 7 rfl rfl)
theorem dX5_link_34 : decode cX5_link 34 = .ok (.goto 8, 3) := dk_167 0 8 (dk_at dksX5_link_1 10 rfl rfl)
theorem dX5_link_37 : decode cX5_link 37 = .ok (.aload_n 0, 1) := dk_42 (dk_at dksX5_link_1 13 rfl rfl)
theorem dX5_link_38 : decode cX5_link 38 = .ok (.iconst 2, 1) := dk_5 (dk_at dksX5_link_1 14 rfl rfl)
theorem dX5_link_39 : decode cX5_link 39 = .ok (.invokevirtual 70, 3) := dk_182 0 70 (dk_at dksX5_link_1 15 rfl rfl)
theorem dX5_link_42 : decode cX5_link 42 = .ok (.ireturn, 1) := dk_172 (dk_at dksX5_link_1 18 rfl rfl)
abbrev cX5_linkValue : ByteArray := prog_11_method_59_code
def yX5_linkValue : MethodName := ⟨RX5, "linkValue", "(II)I"⟩
def dkwX5_linkValue_1 : List UInt8 := [182, 0, 66, 153, 0, 7, 4, 167, 0, 14, 3, 167, 0, 10, 42, 27, 16, 7, 182, 0, 62, 172]
abbrev dktX5_linkValue_1 : List UInt8 := dkwX5_linkValue_1 ++ []
def dkwX5_linkValue_0 : List UInt8 := [28, 16, 7, 162, 0, 12, 42, 27, 28, 182, 0, 62, 167, 0, 32, 28, 16, 7, 160, 0, 19, 42, 27]
abbrev dktX5_linkValue_0 : List UInt8 := dkwX5_linkValue_0 ++ dktX5_linkValue_1
theorem dksX5_linkValue_0 : cX5_linkValue.data.toList.drop 0 = dktX5_linkValue_0 := by decide +kernel
theorem dksX5_linkValue_1 : cX5_linkValue.data.toList.drop 23 = dktX5_linkValue_1 := dk_seg dksX5_linkValue_0 23 rfl rfl
theorem dX5_linkValue_0 : decode cX5_linkValue 0 = .ok (.iload_n 2, 1) := dk_28 (dk_at dksX5_linkValue_0 0 rfl rfl)
theorem dX5_linkValue_1 : decode cX5_linkValue 1 = .ok (.bipush 7, 2) := dk_16 7 (dk_at dksX5_linkValue_0 1 rfl rfl)
theorem dX5_linkValue_3 : decode cX5_linkValue 3 = .ok (.if_icmp .ge 12, 3) := dk_162 0 12 (dk_at dksX5_linkValue_0 3 rfl rfl)
theorem dX5_linkValue_6 : decode cX5_linkValue 6 = .ok (.aload_n 0, 1) := dk_42 (dk_at dksX5_linkValue_0 6 rfl rfl)
theorem dX5_linkValue_7 : decode cX5_linkValue 7 = .ok (.iload_n 1, 1) := dk_27 (dk_at dksX5_linkValue_0 7 rfl rfl)
theorem dX5_linkValue_8 : decode cX5_linkValue 8 = .ok (.iload_n 2, 1) := dk_28 (dk_at dksX5_linkValue_0 8 rfl rfl)
theorem dX5_linkValue_9 : decode cX5_linkValue 9 = .ok (.invokevirtual 62, 3) := dk_182 0 62 (dk_at dksX5_linkValue_0 9 rfl rfl)
theorem dX5_linkValue_12 : decode cX5_linkValue 12 = .ok (.goto 32, 3) := dk_167 0 32 (dk_at dksX5_linkValue_0 12 rfl rfl)
theorem dX5_linkValue_15 : decode cX5_linkValue 15 = .ok (.iload_n 2, 1) := dk_28 (dk_at dksX5_linkValue_0 15 rfl rfl)
theorem dX5_linkValue_16 : decode cX5_linkValue 16 = .ok (.bipush 7, 2) := dk_16 7 (dk_at dksX5_linkValue_0 16 rfl rfl)
theorem dX5_linkValue_18 : decode cX5_linkValue 18 = .ok (.if_icmp .ne 19, 3) := dk_160 0 19 (dk_at dksX5_linkValue_0 18 rfl rfl)
theorem dX5_linkValue_21 : decode cX5_linkValue 21 = .ok (.aload_n 0, 1) := dk_42 (dk_at dksX5_linkValue_0 21 rfl rfl)
theorem dX5_linkValue_22 : decode cX5_linkValue 22 = .ok (.iload_n 1, 1) := dk_27 (dk_at dksX5_linkValue_0 22 rfl rfl)
theorem dX5_linkValue_23 : decode cX5_linkValue 23 = .ok (.invokevirtual 66, 3) := dk_182 0 66 (dk_at dksX5_linkValue_1 0 rfl rfl)
theorem dX5_linkValue_26 : decode cX5_linkValue 26 = .ok (.ifCond .eq 7, 3) := dk_153 0 7 (dk_at dksX5_linkValue_1 3 rfl rfl)
theorem dX5_linkValue_29 : decode cX5_linkValue 29 = .ok (.iconst 1, 1) := dk_4 (dk_at dksX5_linkValue_1 6 rfl rfl)
theorem dX5_linkValue_30 : decode cX5_linkValue 30 = .ok (.goto 14, 3) := dk_167 0 14 (dk_at dksX5_linkValue_1 7 rfl rfl)
theorem dX5_linkValue_33 : decode cX5_linkValue 33 = .ok (.iconst 0, 1) := dk_3 (dk_at dksX5_linkValue_1 10 rfl rfl)
theorem dX5_linkValue_34 : decode cX5_linkValue 34 = .ok (.goto 10, 3) := dk_167 0 10 (dk_at dksX5_linkValue_1 11 rfl rfl)
theorem dX5_linkValue_37 : decode cX5_linkValue 37 = .ok (.aload_n 0, 1) := dk_42 (dk_at dksX5_linkValue_1 14 rfl rfl)
theorem dX5_linkValue_38 : decode cX5_linkValue 38 = .ok (.iload_n 1, 1) := dk_27 (dk_at dksX5_linkValue_1 15 rfl rfl)
theorem dX5_linkValue_39 : decode cX5_linkValue 39 = .ok (.bipush 7, 2) := dk_16 7 (dk_at dksX5_linkValue_1 16 rfl rfl)
theorem dX5_linkValue_41 : decode cX5_linkValue 41 = .ok (.invokevirtual 62, 3) := dk_182 0 62 (dk_at dksX5_linkValue_1 18 rfl rfl)
theorem dX5_linkValue_44 : decode cX5_linkValue 44 = .ok (.ireturn, 1) := dk_172 (dk_at dksX5_linkValue_1 21 rfl rfl)
abbrev cX5_port : ByteArray := prog_11_method_61_code
def yX5_port : MethodName := ⟨RX5, "port", "(IZI)I"⟩
def dkwX5_port_2 : List UInt8 := [167, 0, 8, 42, 5, 182, 0, 70, 172]
abbrev dktX5_port_2 : List UInt8 := dkwX5_port_2 ++ []
def dkwX5_port_1 : List UInt8 := [42, 27, 16, 8, 28, 153, 0, 7, 6, 167, 0, 4, 3, 96, 29, 96, 182, 0, 62, 182, 0, 45]
abbrev dktX5_port_1 : List UInt8 := dkwX5_port_1 ++ dktX5_port_2
def dkwX5_port_0 : List UInt8 := [42, 27, 182, 0, 89, 154, 0, 9, 42, 4, 182, 0, 70, 172, 29, 3, 5, 184, 0, 49, 153, 0, 29, 42]
abbrev dktX5_port_0 : List UInt8 := dkwX5_port_0 ++ dktX5_port_1
theorem dksX5_port_0 : cX5_port.data.toList.drop 0 = dktX5_port_0 := by decide +kernel
theorem dksX5_port_1 : cX5_port.data.toList.drop 24 = dktX5_port_1 := dk_seg dksX5_port_0 24 rfl rfl
theorem dksX5_port_2 : cX5_port.data.toList.drop 46 = dktX5_port_2 := dk_seg dksX5_port_1 22 rfl rfl
theorem dX5_port_0 : decode cX5_port 0 = .ok (.aload_n 0, 1) := dk_42 (dk_at dksX5_port_0 0 rfl rfl)
theorem dX5_port_1 : decode cX5_port 1 = .ok (.iload_n 1, 1) := dk_27 (dk_at dksX5_port_0 1 rfl rfl)
theorem dX5_port_2 : decode cX5_port 2 = .ok (.invokevirtual 89, 3) := dk_182 0 89 (dk_at dksX5_port_0 2 rfl rfl)
theorem dX5_port_5 : decode cX5_port 5 = .ok (.ifCond .ne 9, 3) := dk_154 0 9 (dk_at dksX5_port_0 5 rfl rfl)
theorem dX5_port_8 : decode cX5_port 8 = .ok (.aload_n 0, 1) := dk_42 (dk_at dksX5_port_0 8 rfl rfl)
theorem dX5_port_9 : decode cX5_port 9 = .ok (.iconst 1, 1) := dk_4 (dk_at dksX5_port_0 9 rfl rfl)
theorem dX5_port_10 : decode cX5_port 10 = .ok (.invokevirtual 70, 3) := dk_182 0 70 (dk_at dksX5_port_0 10 rfl rfl)
theorem dX5_port_13 : decode cX5_port 13 = .ok (.ireturn, 1) := dk_172 (dk_at dksX5_port_0 13 rfl rfl)
theorem dX5_port_14 : decode cX5_port 14 = .ok (.iload_n 3, 1) := dk_29 (dk_at dksX5_port_0 14 rfl rfl)
theorem dX5_port_15 : decode cX5_port 15 = .ok (.iconst 0, 1) := dk_3 (dk_at dksX5_port_0 15 rfl rfl)
theorem dX5_port_16 : decode cX5_port 16 = .ok (.iconst 2, 1) := dk_5 (dk_at dksX5_port_0 16 rfl rfl)
theorem dX5_port_17 : decode cX5_port 17 = .ok (.invokestatic 49, 3) := dk_184 0 49 (dk_at dksX5_port_0 17 rfl rfl)
theorem dX5_port_20 : decode cX5_port 20 = .ok (.ifCond .eq 29, 3) := dk_153 0 29 (dk_at dksX5_port_0 20 rfl rfl)
theorem dX5_port_23 : decode cX5_port 23 = .ok (.aload_n 0, 1) := dk_42 (dk_at dksX5_port_0 23 rfl rfl)
theorem dX5_port_24 : decode cX5_port 24 = .ok (.aload_n 0, 1) := dk_42 (dk_at dksX5_port_1 0 rfl rfl)
theorem dX5_port_25 : decode cX5_port 25 = .ok (.iload_n 1, 1) := dk_27 (dk_at dksX5_port_1 1 rfl rfl)
theorem dX5_port_26 : decode cX5_port 26 = .ok (.bipush 8, 2) := dk_16 8 (dk_at dksX5_port_1 2 rfl rfl)
theorem dX5_port_28 : decode cX5_port 28 = .ok (.iload_n 2, 1) := dk_28 (dk_at dksX5_port_1 4 rfl rfl)
theorem dX5_port_29 : decode cX5_port 29 = .ok (.ifCond .eq 7, 3) := dk_153 0 7 (dk_at dksX5_port_1 5 rfl rfl)
theorem dX5_port_32 : decode cX5_port 32 = .ok (.iconst 3, 1) := dk_6 (dk_at dksX5_port_1 8 rfl rfl)
theorem dX5_port_33 : decode cX5_port 33 = .ok (.goto 4, 3) := dk_167 0 4 (dk_at dksX5_port_1 9 rfl rfl)
theorem dX5_port_36 : decode cX5_port 36 = .ok (.iconst 0, 1) := dk_3 (dk_at dksX5_port_1 12 rfl rfl)
theorem dX5_port_37 : decode cX5_port 37 = .ok (.iadd, 1) := dk_96 (dk_at dksX5_port_1 13 rfl rfl)
theorem dX5_port_38 : decode cX5_port 38 = .ok (.iload_n 3, 1) := dk_29 (dk_at dksX5_port_1 14 rfl rfl)
theorem dX5_port_39 : decode cX5_port 39 = .ok (.iadd, 1) := dk_96 (dk_at dksX5_port_1 15 rfl rfl)
theorem dX5_port_40 : decode cX5_port 40 = .ok (.invokevirtual 62, 3) := dk_182 0 62 (dk_at dksX5_port_1 16 rfl rfl)
theorem dX5_port_43 : decode cX5_port 43 = .ok (.invokevirtual 45, 3) := dk_182 0 45 (dk_at dksX5_port_1 19 rfl rfl)
theorem dX5_port_46 : decode cX5_port 46 = .ok (.goto 8, 3) := dk_167 0 8 (dk_at dksX5_port_2 0 rfl rfl)
theorem dX5_port_49 : decode cX5_port 49 = .ok (.aload_n 0, 1) := dk_42 (dk_at dksX5_port_2 3 rfl rfl)
theorem dX5_port_50 : decode cX5_port 50 = .ok (.iconst 2, 1) := dk_5 (dk_at dksX5_port_2 4 rfl rfl)
theorem dX5_port_51 : decode cX5_port 51 = .ok (.invokevirtual 70, 3) := dk_182 0 70 (dk_at dksX5_port_2 5 rfl rfl)
theorem dX5_port_54 : decode cX5_port 54 = .ok (.ireturn, 1) := dk_172 (dk_at dksX5_port_2 8 rfl rfl)
abbrev cX5_entry : ByteArray := prog_11_method_62_code
def yX5_entry : MethodName := ⟨RX5, "entry", "(II)I"⟩
def dkwX5_entry_1 : List UInt8 := [182, 0, 45, 167, 0, 8, 42, 4, 182, 0, 70, 172]
abbrev dktX5_entry_1 : List UInt8 := dkwX5_entry_1 ++ []
def dkwX5_entry_0 : List UInt8 := [42, 27, 182, 0, 79, 153, 0, 23, 28, 184, 0, 92, 153, 0, 16, 42, 42, 27, 28, 182, 0, 170]
abbrev dktX5_entry_0 : List UInt8 := dkwX5_entry_0 ++ dktX5_entry_1
theorem dksX5_entry_0 : cX5_entry.data.toList.drop 0 = dktX5_entry_0 := by decide +kernel
theorem dksX5_entry_1 : cX5_entry.data.toList.drop 22 = dktX5_entry_1 := dk_seg dksX5_entry_0 22 rfl rfl
theorem dX5_entry_0 : decode cX5_entry 0 = .ok (.aload_n 0, 1) := dk_42 (dk_at dksX5_entry_0 0 rfl rfl)
theorem dX5_entry_1 : decode cX5_entry 1 = .ok (.iload_n 1, 1) := dk_27 (dk_at dksX5_entry_0 1 rfl rfl)
theorem dX5_entry_2 : decode cX5_entry 2 = .ok (.invokevirtual 79, 3) := dk_182 0 79 (dk_at dksX5_entry_0 2 rfl rfl)
theorem dX5_entry_5 : decode cX5_entry 5 = .ok (.ifCond .eq 23, 3) := dk_153 0 23 (dk_at dksX5_entry_0 5 rfl rfl)
theorem dX5_entry_8 : decode cX5_entry 8 = .ok (.iload_n 2, 1) := dk_28 (dk_at dksX5_entry_0 8 rfl rfl)
theorem dX5_entry_9 : decode cX5_entry 9 = .ok (.invokestatic 92, 3) := dk_184 0 92 (dk_at dksX5_entry_0 9 rfl rfl)
theorem dX5_entry_12 : decode cX5_entry 12 = .ok (.ifCond .eq 16, 3) := dk_153 0 16 (dk_at dksX5_entry_0 12 rfl rfl)
theorem dX5_entry_15 : decode cX5_entry 15 = .ok (.aload_n 0, 1) := dk_42 (dk_at dksX5_entry_0 15 rfl rfl)
theorem dX5_entry_16 : decode cX5_entry 16 = .ok (.aload_n 0, 1) := dk_42 (dk_at dksX5_entry_0 16 rfl rfl)
theorem dX5_entry_17 : decode cX5_entry 17 = .ok (.iload_n 1, 1) := dk_27 (dk_at dksX5_entry_0 17 rfl rfl)
theorem dX5_entry_18 : decode cX5_entry 18 = .ok (.iload_n 2, 1) := dk_28 (dk_at dksX5_entry_0 18 rfl rfl)
theorem dX5_entry_19 : decode cX5_entry 19 = .ok (.invokevirtual 170, 3) := dk_182 0 170 (dk_at dksX5_entry_0 19 rfl rfl)
theorem dX5_entry_22 : decode cX5_entry 22 = .ok (.invokevirtual 45, 3) := dk_182 0 45 (dk_at dksX5_entry_1 0 rfl rfl)
theorem dX5_entry_25 : decode cX5_entry 25 = .ok (.goto 8, 3) := dk_167 0 8 (dk_at dksX5_entry_1 3 rfl rfl)
theorem dX5_entry_28 : decode cX5_entry 28 = .ok (.aload_n 0, 1) := dk_42 (dk_at dksX5_entry_1 6 rfl rfl)
theorem dX5_entry_29 : decode cX5_entry 29 = .ok (.iconst 1, 1) := dk_4 (dk_at dksX5_entry_1 7 rfl rfl)
theorem dX5_entry_30 : decode cX5_entry 30 = .ok (.invokevirtual 70, 3) := dk_182 0 70 (dk_at dksX5_entry_1 8 rfl rfl)
theorem dX5_entry_33 : decode cX5_entry 33 = .ok (.ireturn, 1) := dk_172 (dk_at dksX5_entry_1 11 rfl rfl)
abbrev cX5_tenant : ByteArray := prog_11_method_65_code
def yX5_tenant : MethodName := ⟨RX5, "tenant", "(II)I"⟩
def dkwX5_tenant_1 : List UInt8 := [27, 28, 182, 0, 185, 182, 0, 45, 167, 0, 8, 42, 5, 182, 0, 70, 172]
abbrev dktX5_tenant_1 : List UInt8 := dkwX5_tenant_1 ++ []
def dkwX5_tenant_0 : List UInt8 := [27, 184, 0, 95, 154, 0, 9, 42, 4, 182, 0, 70, 172, 28, 3, 6, 184, 0, 49, 153, 0, 16, 42, 42]
abbrev dktX5_tenant_0 : List UInt8 := dkwX5_tenant_0 ++ dktX5_tenant_1
theorem dksX5_tenant_0 : cX5_tenant.data.toList.drop 0 = dktX5_tenant_0 := by decide +kernel
theorem dksX5_tenant_1 : cX5_tenant.data.toList.drop 24 = dktX5_tenant_1 := dk_seg dksX5_tenant_0 24 rfl rfl
theorem dX5_tenant_0 : decode cX5_tenant 0 = .ok (.iload_n 1, 1) := dk_27 (dk_at dksX5_tenant_0 0 rfl rfl)
theorem dX5_tenant_1 : decode cX5_tenant 1 = .ok (.invokestatic 95, 3) := dk_184 0 95 (dk_at dksX5_tenant_0 1 rfl rfl)
theorem dX5_tenant_4 : decode cX5_tenant 4 = .ok (.ifCond .ne 9, 3) := dk_154 0 9 (dk_at dksX5_tenant_0 4 rfl rfl)
theorem dX5_tenant_7 : decode cX5_tenant 7 = .ok (.aload_n 0, 1) := dk_42 (dk_at dksX5_tenant_0 7 rfl rfl)
theorem dX5_tenant_8 : decode cX5_tenant 8 = .ok (.iconst 1, 1) := dk_4 (dk_at dksX5_tenant_0 8 rfl rfl)
theorem dX5_tenant_9 : decode cX5_tenant 9 = .ok (.invokevirtual 70, 3) := dk_182 0 70 (dk_at dksX5_tenant_0 9 rfl rfl)
theorem dX5_tenant_12 : decode cX5_tenant 12 = .ok (.ireturn, 1) := dk_172 (dk_at dksX5_tenant_0 12 rfl rfl)
theorem dX5_tenant_13 : decode cX5_tenant 13 = .ok (.iload_n 2, 1) := dk_28 (dk_at dksX5_tenant_0 13 rfl rfl)
theorem dX5_tenant_14 : decode cX5_tenant 14 = .ok (.iconst 0, 1) := dk_3 (dk_at dksX5_tenant_0 14 rfl rfl)
theorem dX5_tenant_15 : decode cX5_tenant 15 = .ok (.iconst 3, 1) := dk_6 (dk_at dksX5_tenant_0 15 rfl rfl)
theorem dX5_tenant_16 : decode cX5_tenant 16 = .ok (.invokestatic 49, 3) := dk_184 0 49 (dk_at dksX5_tenant_0 16 rfl rfl)
theorem dX5_tenant_19 : decode cX5_tenant 19 = .ok (.ifCond .eq 16, 3) := dk_153 0 16 (dk_at dksX5_tenant_0 19 rfl rfl)
theorem dX5_tenant_22 : decode cX5_tenant 22 = .ok (.aload_n 0, 1) := dk_42 (dk_at dksX5_tenant_0 22 rfl rfl)
theorem dX5_tenant_23 : decode cX5_tenant 23 = .ok (.aload_n 0, 1) := dk_42 (dk_at dksX5_tenant_0 23 rfl rfl)
theorem dX5_tenant_24 : decode cX5_tenant 24 = .ok (.iload_n 1, 1) := dk_27 (dk_at dksX5_tenant_1 0 rfl rfl)
theorem dX5_tenant_25 : decode cX5_tenant 25 = .ok (.iload_n 2, 1) := dk_28 (dk_at dksX5_tenant_1 1 rfl rfl)
theorem dX5_tenant_26 : decode cX5_tenant 26 = .ok (.invokevirtual 185, 3) := dk_182 0 185 (dk_at dksX5_tenant_1 2 rfl rfl)
theorem dX5_tenant_29 : decode cX5_tenant 29 = .ok (.invokevirtual 45, 3) := dk_182 0 45 (dk_at dksX5_tenant_1 5 rfl rfl)
theorem dX5_tenant_32 : decode cX5_tenant 32 = .ok (.goto 8, 3) := dk_167 0 8 (dk_at dksX5_tenant_1 8 rfl rfl)
theorem dX5_tenant_35 : decode cX5_tenant 35 = .ok (.aload_n 0, 1) := dk_42 (dk_at dksX5_tenant_1 11 rfl rfl)
theorem dX5_tenant_36 : decode cX5_tenant 36 = .ok (.iconst 2, 1) := dk_5 (dk_at dksX5_tenant_1 12 rfl rfl)
theorem dX5_tenant_37 : decode cX5_tenant 37 = .ok (.invokevirtual 70, 3) := dk_182 0 70 (dk_at dksX5_tenant_1 13 rfl rfl)
theorem dX5_tenant_40 : decode cX5_tenant 40 = .ok (.ireturn, 1) := dk_172 (dk_at dksX5_tenant_1 16 rfl rfl)
abbrev cX5_tenantValue : ByteArray := prog_11_method_64_code
def yX5_tenantValue : MethodName := ⟨RX5, "tenantValue", "(II)I"⟩
def dkwX5_tenantValue_1 : List UInt8 := [28, 154, 0, 7, 3, 167, 0, 6, 28, 4, 100, 96, 46, 172]
abbrev dktX5_tenantValue_1 : List UInt8 := dkwX5_tenantValue_1 ++ []
def dkwX5_tenantValue_0 : List UInt8 := [28, 4, 160, 0, 11, 42, 27, 182, 0, 182, 167, 0, 27, 42, 180, 0, 7, 17, 0, 187, 6, 27, 104, 96]
abbrev dktX5_tenantValue_0 : List UInt8 := dkwX5_tenantValue_0 ++ dktX5_tenantValue_1
theorem dksX5_tenantValue_0 : cX5_tenantValue.data.toList.drop 0 = dktX5_tenantValue_0 := by decide +kernel
theorem dksX5_tenantValue_1 : cX5_tenantValue.data.toList.drop 24 = dktX5_tenantValue_1 := dk_seg dksX5_tenantValue_0 24 rfl rfl
theorem dX5_tenantValue_0 : decode cX5_tenantValue 0 = .ok (.iload_n 2, 1) := dk_28 (dk_at dksX5_tenantValue_0 0 rfl rfl)
theorem dX5_tenantValue_1 : decode cX5_tenantValue 1 = .ok (.iconst 1, 1) := dk_4 (dk_at dksX5_tenantValue_0 1 rfl rfl)
theorem dX5_tenantValue_2 : decode cX5_tenantValue 2 = .ok (.if_icmp .ne 11, 3) := dk_160 0 11 (dk_at dksX5_tenantValue_0 2 rfl rfl)
theorem dX5_tenantValue_5 : decode cX5_tenantValue 5 = .ok (.aload_n 0, 1) := dk_42 (dk_at dksX5_tenantValue_0 5 rfl rfl)
theorem dX5_tenantValue_6 : decode cX5_tenantValue 6 = .ok (.iload_n 1, 1) := dk_27 (dk_at dksX5_tenantValue_0 6 rfl rfl)
theorem dX5_tenantValue_7 : decode cX5_tenantValue 7 = .ok (.invokevirtual 182, 3) := dk_182 0 182 (dk_at dksX5_tenantValue_0 7 rfl rfl)
theorem dX5_tenantValue_10 : decode cX5_tenantValue 10 = .ok (.goto 27, 3) := dk_167 0 27 (dk_at dksX5_tenantValue_0 10 rfl rfl)
theorem dX5_tenantValue_13 : decode cX5_tenantValue 13 = .ok (.aload_n 0, 1) := dk_42 (dk_at dksX5_tenantValue_0 13 rfl rfl)
theorem dX5_tenantValue_14 : decode cX5_tenantValue 14 = .ok (.getfield 7, 3) := dk_180 0 7 (dk_at dksX5_tenantValue_0 14 rfl rfl)
theorem dX5_tenantValue_17 : decode cX5_tenantValue 17 = .ok (.sipush 187, 3) := dk_17 0 187 (dk_at dksX5_tenantValue_0 17 rfl rfl)
theorem dX5_tenantValue_20 : decode cX5_tenantValue 20 = .ok (.iconst 3, 1) := dk_6 (dk_at dksX5_tenantValue_0 20 rfl rfl)
theorem dX5_tenantValue_21 : decode cX5_tenantValue 21 = .ok (.iload_n 1, 1) := dk_27 (dk_at dksX5_tenantValue_0 21 rfl rfl)
theorem dX5_tenantValue_22 : decode cX5_tenantValue 22 = .ok (.imul, 1) := dk_104 (dk_at dksX5_tenantValue_0 22 rfl rfl)
theorem dX5_tenantValue_23 : decode cX5_tenantValue 23 = .ok (.iadd, 1) := dk_96 (dk_at dksX5_tenantValue_0 23 rfl rfl)
theorem dX5_tenantValue_24 : decode cX5_tenantValue 24 = .ok (.iload_n 2, 1) := dk_28 (dk_at dksX5_tenantValue_1 0 rfl rfl)
theorem dX5_tenantValue_25 : decode cX5_tenantValue 25 = .ok (.ifCond .ne 7, 3) := dk_154 0 7 (dk_at dksX5_tenantValue_1 1 rfl rfl)
theorem dX5_tenantValue_28 : decode cX5_tenantValue 28 = .ok (.iconst 0, 1) := dk_3 (dk_at dksX5_tenantValue_1 4 rfl rfl)
theorem dX5_tenantValue_29 : decode cX5_tenantValue 29 = .ok (.goto 6, 3) := dk_167 0 6 (dk_at dksX5_tenantValue_1 5 rfl rfl)
theorem dX5_tenantValue_32 : decode cX5_tenantValue 32 = .ok (.iload_n 2, 1) := dk_28 (dk_at dksX5_tenantValue_1 8 rfl rfl)
theorem dX5_tenantValue_33 : decode cX5_tenantValue 33 = .ok (.iconst 1, 1) := dk_4 (dk_at dksX5_tenantValue_1 9 rfl rfl)
theorem dX5_tenantValue_34 : decode cX5_tenantValue 34 = .ok (.isub, 1) := dk_100 (dk_at dksX5_tenantValue_1 10 rfl rfl)
theorem dX5_tenantValue_35 : decode cX5_tenantValue 35 = .ok (.iadd, 1) := dk_96 (dk_at dksX5_tenantValue_1 11 rfl rfl)
theorem dX5_tenantValue_36 : decode cX5_tenantValue 36 = .ok (.iaload, 1) := dk_46 (dk_at dksX5_tenantValue_1 12 rfl rfl)
theorem dX5_tenantValue_37 : decode cX5_tenantValue 37 = .ok (.ireturn, 1) := dk_172 (dk_at dksX5_tenantValue_1 13 rfl rfl)
abbrev cX5_won : ByteArray := prog_11_method_63_code
def yX5_won : MethodName := ⟨RX5, "won", "(I)I"⟩
def dkwX5_won_1 : List UInt8 := [160, 0, 7, 4, 167, 0, 4, 3, 96, 61, 132, 3, 1, 167, 255, 225, 28, 172]
abbrev dktX5_won_1 : List UInt8 := dkwX5_won_1 ++ []
def dkwX5_won_0 : List UInt8 := [3, 61, 3, 62, 29, 42, 180, 0, 7, 8, 46, 162, 0, 27, 28, 42, 29, 8, 182, 0, 62, 27]
abbrev dktX5_won_0 : List UInt8 := dkwX5_won_0 ++ dktX5_won_1
theorem dksX5_won_0 : cX5_won.data.toList.drop 0 = dktX5_won_0 := by decide +kernel
theorem dksX5_won_1 : cX5_won.data.toList.drop 22 = dktX5_won_1 := dk_seg dksX5_won_0 22 rfl rfl
theorem dX5_won_0 : decode cX5_won 0 = .ok (.iconst 0, 1) := dk_3 (dk_at dksX5_won_0 0 rfl rfl)
theorem dX5_won_1 : decode cX5_won 1 = .ok (.istore_n 2, 1) := dk_61 (dk_at dksX5_won_0 1 rfl rfl)
theorem dX5_won_2 : decode cX5_won 2 = .ok (.iconst 0, 1) := dk_3 (dk_at dksX5_won_0 2 rfl rfl)
theorem dX5_won_3 : decode cX5_won 3 = .ok (.istore_n 3, 1) := dk_62 (dk_at dksX5_won_0 3 rfl rfl)
theorem dX5_won_4 : decode cX5_won 4 = .ok (.iload_n 3, 1) := dk_29 (dk_at dksX5_won_0 4 rfl rfl)
theorem dX5_won_5 : decode cX5_won 5 = .ok (.aload_n 0, 1) := dk_42 (dk_at dksX5_won_0 5 rfl rfl)
theorem dX5_won_6 : decode cX5_won 6 = .ok (.getfield 7, 3) := dk_180 0 7 (dk_at dksX5_won_0 6 rfl rfl)
theorem dX5_won_9 : decode cX5_won 9 = .ok (.iconst 5, 1) := dk_8 (dk_at dksX5_won_0 9 rfl rfl)
theorem dX5_won_10 : decode cX5_won 10 = .ok (.iaload, 1) := dk_46 (dk_at dksX5_won_0 10 rfl rfl)
theorem dX5_won_11 : decode cX5_won 11 = .ok (.if_icmp .ge 27, 3) := dk_162 0 27 (dk_at dksX5_won_0 11 rfl rfl)
theorem dX5_won_14 : decode cX5_won 14 = .ok (.iload_n 2, 1) := dk_28 (dk_at dksX5_won_0 14 rfl rfl)
theorem dX5_won_15 : decode cX5_won 15 = .ok (.aload_n 0, 1) := dk_42 (dk_at dksX5_won_0 15 rfl rfl)
theorem dX5_won_16 : decode cX5_won 16 = .ok (.iload_n 3, 1) := dk_29 (dk_at dksX5_won_0 16 rfl rfl)
theorem dX5_won_17 : decode cX5_won 17 = .ok (.iconst 5, 1) := dk_8 (dk_at dksX5_won_0 17 rfl rfl)
theorem dX5_won_18 : decode cX5_won 18 = .ok (.invokevirtual 62, 3) := dk_182 0 62 (dk_at dksX5_won_0 18 rfl rfl)
theorem dX5_won_21 : decode cX5_won 21 = .ok (.iload_n 1, 1) := dk_27 (dk_at dksX5_won_0 21 rfl rfl)
theorem dX5_won_22 : decode cX5_won 22 = .ok (.if_icmp .ne 7, 3) := dk_160 0 7 (dk_at dksX5_won_1 0 rfl rfl)
theorem dX5_won_25 : decode cX5_won 25 = .ok (.iconst 1, 1) := dk_4 (dk_at dksX5_won_1 3 rfl rfl)
theorem dX5_won_26 : decode cX5_won 26 = .ok (.goto 4, 3) := dk_167 0 4 (dk_at dksX5_won_1 4 rfl rfl)
theorem dX5_won_29 : decode cX5_won 29 = .ok (.iconst 0, 1) := dk_3 (dk_at dksX5_won_1 7 rfl rfl)
theorem dX5_won_30 : decode cX5_won 30 = .ok (.iadd, 1) := dk_96 (dk_at dksX5_won_1 8 rfl rfl)
theorem dX5_won_31 : decode cX5_won 31 = .ok (.istore_n 2, 1) := dk_61 (dk_at dksX5_won_1 9 rfl rfl)
theorem dX5_won_32 : decode cX5_won 32 = .ok (.iinc 3 1, 3) := dk_132 3 1 (dk_at dksX5_won_1 10 rfl rfl)
theorem dX5_won_35 : decode cX5_won 35 = .ok (.goto (-31), 3) := dk_167 255 225 (dk_at dksX5_won_1 13 rfl rfl)
theorem dX5_won_38 : decode cX5_won 38 = .ok (.iload_n 2, 1) := dk_28 (dk_at dksX5_won_1 16 rfl rfl)
theorem dX5_won_39 : decode cX5_won 39 = .ok (.ireturn, 1) := dk_172 (dk_at dksX5_won_1 17 rfl rfl)
abbrev cX5_bidOf : ByteArray := prog_11_method_66_code
def yX5_bidOf : MethodName := ⟨RX5, "bidOf", "(II)I"⟩
def dkwX5_bidOf_1 : List UInt8 := [182, 0, 62, 182, 0, 45, 167, 0, 8, 42, 4, 182, 0, 70, 172]
abbrev dktX5_bidOf_1 : List UInt8 := dkwX5_bidOf_1 ++ []
def dkwX5_bidOf_0 : List UInt8 := [27, 184, 0, 95, 153, 0, 27, 42, 28, 182, 0, 89, 153, 0, 19, 42, 42, 28, 16, 14, 27, 96]
abbrev dktX5_bidOf_0 : List UInt8 := dkwX5_bidOf_0 ++ dktX5_bidOf_1
theorem dksX5_bidOf_0 : cX5_bidOf.data.toList.drop 0 = dktX5_bidOf_0 := by decide +kernel
theorem dksX5_bidOf_1 : cX5_bidOf.data.toList.drop 22 = dktX5_bidOf_1 := dk_seg dksX5_bidOf_0 22 rfl rfl
theorem dX5_bidOf_0 : decode cX5_bidOf 0 = .ok (.iload_n 1, 1) := dk_27 (dk_at dksX5_bidOf_0 0 rfl rfl)
theorem dX5_bidOf_1 : decode cX5_bidOf 1 = .ok (.invokestatic 95, 3) := dk_184 0 95 (dk_at dksX5_bidOf_0 1 rfl rfl)
theorem dX5_bidOf_4 : decode cX5_bidOf 4 = .ok (.ifCond .eq 27, 3) := dk_153 0 27 (dk_at dksX5_bidOf_0 4 rfl rfl)
theorem dX5_bidOf_7 : decode cX5_bidOf 7 = .ok (.aload_n 0, 1) := dk_42 (dk_at dksX5_bidOf_0 7 rfl rfl)
theorem dX5_bidOf_8 : decode cX5_bidOf 8 = .ok (.iload_n 2, 1) := dk_28 (dk_at dksX5_bidOf_0 8 rfl rfl)
theorem dX5_bidOf_9 : decode cX5_bidOf 9 = .ok (.invokevirtual 89, 3) := dk_182 0 89 (dk_at dksX5_bidOf_0 9 rfl rfl)
theorem dX5_bidOf_12 : decode cX5_bidOf 12 = .ok (.ifCond .eq 19, 3) := dk_153 0 19 (dk_at dksX5_bidOf_0 12 rfl rfl)
theorem dX5_bidOf_15 : decode cX5_bidOf 15 = .ok (.aload_n 0, 1) := dk_42 (dk_at dksX5_bidOf_0 15 rfl rfl)
theorem dX5_bidOf_16 : decode cX5_bidOf 16 = .ok (.aload_n 0, 1) := dk_42 (dk_at dksX5_bidOf_0 16 rfl rfl)
theorem dX5_bidOf_17 : decode cX5_bidOf 17 = .ok (.iload_n 2, 1) := dk_28 (dk_at dksX5_bidOf_0 17 rfl rfl)
theorem dX5_bidOf_18 : decode cX5_bidOf 18 = .ok (.bipush 14, 2) := dk_16 14 (dk_at dksX5_bidOf_0 18 rfl rfl)
theorem dX5_bidOf_20 : decode cX5_bidOf 20 = .ok (.iload_n 1, 1) := dk_27 (dk_at dksX5_bidOf_0 20 rfl rfl)
theorem dX5_bidOf_21 : decode cX5_bidOf 21 = .ok (.iadd, 1) := dk_96 (dk_at dksX5_bidOf_0 21 rfl rfl)
theorem dX5_bidOf_22 : decode cX5_bidOf 22 = .ok (.invokevirtual 62, 3) := dk_182 0 62 (dk_at dksX5_bidOf_1 0 rfl rfl)
theorem dX5_bidOf_25 : decode cX5_bidOf 25 = .ok (.invokevirtual 45, 3) := dk_182 0 45 (dk_at dksX5_bidOf_1 3 rfl rfl)
theorem dX5_bidOf_28 : decode cX5_bidOf 28 = .ok (.goto 8, 3) := dk_167 0 8 (dk_at dksX5_bidOf_1 6 rfl rfl)
theorem dX5_bidOf_31 : decode cX5_bidOf 31 = .ok (.aload_n 0, 1) := dk_42 (dk_at dksX5_bidOf_1 9 rfl rfl)
theorem dX5_bidOf_32 : decode cX5_bidOf 32 = .ok (.iconst 1, 1) := dk_4 (dk_at dksX5_bidOf_1 10 rfl rfl)
theorem dX5_bidOf_33 : decode cX5_bidOf 33 = .ok (.invokevirtual 70, 3) := dk_182 0 70 (dk_at dksX5_bidOf_1 11 rfl rfl)
theorem dX5_bidOf_36 : decode cX5_bidOf 36 = .ok (.ireturn, 1) := dk_172 (dk_at dksX5_bidOf_1 14 rfl rfl)
abbrev cX5_count : ByteArray := prog_11_method_70_code
def yX5_count : MethodName := ⟨RX5, "count", "(I)I"⟩
def dkwX5_count_1 : List UInt8 := [182, 0, 70, 172]
abbrev dktX5_count_1 : List UInt8 := dkwX5_count_1 ++ []
def dkwX5_count_0 : List UInt8 := [27, 3, 16, 6, 184, 0, 49, 153, 0, 15, 42, 42, 27, 182, 0, 195, 182, 0, 45, 167, 0, 8, 42, 4]
abbrev dktX5_count_0 : List UInt8 := dkwX5_count_0 ++ dktX5_count_1
theorem dksX5_count_0 : cX5_count.data.toList.drop 0 = dktX5_count_0 := by decide +kernel
theorem dksX5_count_1 : cX5_count.data.toList.drop 24 = dktX5_count_1 := dk_seg dksX5_count_0 24 rfl rfl
theorem dX5_count_0 : decode cX5_count 0 = .ok (.iload_n 1, 1) := dk_27 (dk_at dksX5_count_0 0 rfl rfl)
theorem dX5_count_1 : decode cX5_count 1 = .ok (.iconst 0, 1) := dk_3 (dk_at dksX5_count_0 1 rfl rfl)
theorem dX5_count_2 : decode cX5_count 2 = .ok (.bipush 6, 2) := dk_16 6 (dk_at dksX5_count_0 2 rfl rfl)
theorem dX5_count_4 : decode cX5_count 4 = .ok (.invokestatic 49, 3) := dk_184 0 49 (dk_at dksX5_count_0 4 rfl rfl)
theorem dX5_count_7 : decode cX5_count 7 = .ok (.ifCond .eq 15, 3) := dk_153 0 15 (dk_at dksX5_count_0 7 rfl rfl)
theorem dX5_count_10 : decode cX5_count 10 = .ok (.aload_n 0, 1) := dk_42 (dk_at dksX5_count_0 10 rfl rfl)
theorem dX5_count_11 : decode cX5_count 11 = .ok (.aload_n 0, 1) := dk_42 (dk_at dksX5_count_0 11 rfl rfl)
theorem dX5_count_12 : decode cX5_count 12 = .ok (.iload_n 1, 1) := dk_27 (dk_at dksX5_count_0 12 rfl rfl)
theorem dX5_count_13 : decode cX5_count 13 = .ok (.invokevirtual 195, 3) := dk_182 0 195 (dk_at dksX5_count_0 13 rfl rfl)
theorem dX5_count_16 : decode cX5_count 16 = .ok (.invokevirtual 45, 3) := dk_182 0 45 (dk_at dksX5_count_0 16 rfl rfl)
theorem dX5_count_19 : decode cX5_count 19 = .ok (.goto 8, 3) := dk_167 0 8 (dk_at dksX5_count_0 19 rfl rfl)
theorem dX5_count_22 : decode cX5_count 22 = .ok (.aload_n 0, 1) := dk_42 (dk_at dksX5_count_0 22 rfl rfl)
theorem dX5_count_23 : decode cX5_count 23 = .ok (.iconst 1, 1) := dk_4 (dk_at dksX5_count_0 23 rfl rfl)
theorem dX5_count_24 : decode cX5_count 24 = .ok (.invokevirtual 70, 3) := dk_182 0 70 (dk_at dksX5_count_1 0 rfl rfl)
theorem dX5_count_27 : decode cX5_count 27 = .ok (.ireturn, 1) := dk_172 (dk_at dksX5_count_1 3 rfl rfl)
abbrev cX5_counted : ByteArray := prog_11_method_69_code
def yX5_counted : MethodName := ⟨RX5, "counted", "(I)I"⟩
def dkwX5_counted_1 : List UInt8 := [182, 0, 188, 167, 0, 7, 42, 182, 0, 192, 172]
abbrev dktX5_counted_1 : List UInt8 := dkwX5_counted_1 ++ []
def dkwX5_counted_0 : List UInt8 := [27, 8, 162, 0, 15, 42, 180, 0, 7, 16, 6, 27, 96, 46, 167, 0, 19, 27, 8, 160, 0, 10, 42]
abbrev dktX5_counted_0 : List UInt8 := dkwX5_counted_0 ++ dktX5_counted_1
theorem dksX5_counted_0 : cX5_counted.data.toList.drop 0 = dktX5_counted_0 := by decide +kernel
theorem dksX5_counted_1 : cX5_counted.data.toList.drop 23 = dktX5_counted_1 := dk_seg dksX5_counted_0 23 rfl rfl
theorem dX5_counted_0 : decode cX5_counted 0 = .ok (.iload_n 1, 1) := dk_27 (dk_at dksX5_counted_0 0 rfl rfl)
theorem dX5_counted_1 : decode cX5_counted 1 = .ok (.iconst 5, 1) := dk_8 (dk_at dksX5_counted_0 1 rfl rfl)
theorem dX5_counted_2 : decode cX5_counted 2 = .ok (.if_icmp .ge 15, 3) := dk_162 0 15 (dk_at dksX5_counted_0 2 rfl rfl)
theorem dX5_counted_5 : decode cX5_counted 5 = .ok (.aload_n 0, 1) := dk_42 (dk_at dksX5_counted_0 5 rfl rfl)
theorem dX5_counted_6 : decode cX5_counted 6 = .ok (.getfield 7, 3) := dk_180 0 7 (dk_at dksX5_counted_0 6 rfl rfl)
theorem dX5_counted_9 : decode cX5_counted 9 = .ok (.bipush 6, 2) := dk_16 6 (dk_at dksX5_counted_0 9 rfl rfl)
theorem dX5_counted_11 : decode cX5_counted 11 = .ok (.iload_n 1, 1) := dk_27 (dk_at dksX5_counted_0 11 rfl rfl)
theorem dX5_counted_12 : decode cX5_counted 12 = .ok (.iadd, 1) := dk_96 (dk_at dksX5_counted_0 12 rfl rfl)
theorem dX5_counted_13 : decode cX5_counted 13 = .ok (.iaload, 1) := dk_46 (dk_at dksX5_counted_0 13 rfl rfl)
theorem dX5_counted_14 : decode cX5_counted 14 = .ok (.goto 19, 3) := dk_167 0 19 (dk_at dksX5_counted_0 14 rfl rfl)
theorem dX5_counted_17 : decode cX5_counted 17 = .ok (.iload_n 1, 1) := dk_27 (dk_at dksX5_counted_0 17 rfl rfl)
theorem dX5_counted_18 : decode cX5_counted 18 = .ok (.iconst 5, 1) := dk_8 (dk_at dksX5_counted_0 18 rfl rfl)
theorem dX5_counted_19 : decode cX5_counted 19 = .ok (.if_icmp .ne 10, 3) := dk_160 0 10 (dk_at dksX5_counted_0 19 rfl rfl)
theorem dX5_counted_22 : decode cX5_counted 22 = .ok (.aload_n 0, 1) := dk_42 (dk_at dksX5_counted_0 22 rfl rfl)
theorem dX5_counted_23 : decode cX5_counted 23 = .ok (.invokevirtual 188, 3) := dk_182 0 188 (dk_at dksX5_counted_1 0 rfl rfl)
theorem dX5_counted_26 : decode cX5_counted 26 = .ok (.goto 7, 3) := dk_167 0 7 (dk_at dksX5_counted_1 3 rfl rfl)
theorem dX5_counted_29 : decode cX5_counted 29 = .ok (.aload_n 0, 1) := dk_42 (dk_at dksX5_counted_1 6 rfl rfl)
theorem dX5_counted_30 : decode cX5_counted 30 = .ok (.invokevirtual 192, 3) := dk_182 0 192 (dk_at dksX5_counted_1 7 rfl rfl)
theorem dX5_counted_33 : decode cX5_counted 33 = .ok (.ireturn, 1) := dk_172 (dk_at dksX5_counted_1 10 rfl rfl)
abbrev cX5_carrying : ByteArray := prog_11_method_67_code
def yX5_carrying : MethodName := ⟨RX5, "carrying", "()I"⟩
def dkwX5_carrying_1 : List UInt8 := [167, 0, 4, 3, 96, 60, 132, 2, 1, 167, 255, 227, 27, 172]
abbrev dktX5_carrying_1 : List UInt8 := dkwX5_carrying_1 ++ []
def dkwX5_carrying_0 : List UInt8 := [3, 60, 3, 61, 28, 42, 180, 0, 7, 8, 46, 162, 0, 25, 27, 42, 28, 182, 0, 66, 153, 0, 7, 4]
abbrev dktX5_carrying_0 : List UInt8 := dkwX5_carrying_0 ++ dktX5_carrying_1
theorem dksX5_carrying_0 : cX5_carrying.data.toList.drop 0 = dktX5_carrying_0 := by decide +kernel
theorem dksX5_carrying_1 : cX5_carrying.data.toList.drop 24 = dktX5_carrying_1 := dk_seg dksX5_carrying_0 24 rfl rfl
theorem dX5_carrying_0 : decode cX5_carrying 0 = .ok (.iconst 0, 1) := dk_3 (dk_at dksX5_carrying_0 0 rfl rfl)
theorem dX5_carrying_1 : decode cX5_carrying 1 = .ok (.istore_n 1, 1) := dk_60 (dk_at dksX5_carrying_0 1 rfl rfl)
theorem dX5_carrying_2 : decode cX5_carrying 2 = .ok (.iconst 0, 1) := dk_3 (dk_at dksX5_carrying_0 2 rfl rfl)
theorem dX5_carrying_3 : decode cX5_carrying 3 = .ok (.istore_n 2, 1) := dk_61 (dk_at dksX5_carrying_0 3 rfl rfl)
theorem dX5_carrying_4 : decode cX5_carrying 4 = .ok (.iload_n 2, 1) := dk_28 (dk_at dksX5_carrying_0 4 rfl rfl)
theorem dX5_carrying_5 : decode cX5_carrying 5 = .ok (.aload_n 0, 1) := dk_42 (dk_at dksX5_carrying_0 5 rfl rfl)
theorem dX5_carrying_6 : decode cX5_carrying 6 = .ok (.getfield 7, 3) := dk_180 0 7 (dk_at dksX5_carrying_0 6 rfl rfl)
theorem dX5_carrying_9 : decode cX5_carrying 9 = .ok (.iconst 5, 1) := dk_8 (dk_at dksX5_carrying_0 9 rfl rfl)
theorem dX5_carrying_10 : decode cX5_carrying 10 = .ok (.iaload, 1) := dk_46 (dk_at dksX5_carrying_0 10 rfl rfl)
theorem dX5_carrying_11 : decode cX5_carrying 11 = .ok (.if_icmp .ge 25, 3) := dk_162 0 25 (dk_at dksX5_carrying_0 11 rfl rfl)
theorem dX5_carrying_14 : decode cX5_carrying 14 = .ok (.iload_n 1, 1) := dk_27 (dk_at dksX5_carrying_0 14 rfl rfl)
theorem dX5_carrying_15 : decode cX5_carrying 15 = .ok (.aload_n 0, 1) := dk_42 (dk_at dksX5_carrying_0 15 rfl rfl)
theorem dX5_carrying_16 : decode cX5_carrying 16 = .ok (.iload_n 2, 1) := dk_28 (dk_at dksX5_carrying_0 16 rfl rfl)
theorem dX5_carrying_17 : decode cX5_carrying 17 = .ok (.invokevirtual 66, 3) := dk_182 0 66 (dk_at dksX5_carrying_0 17 rfl rfl)
theorem dX5_carrying_20 : decode cX5_carrying 20 = .ok (.ifCond .eq 7, 3) := dk_153 0 7 (dk_at dksX5_carrying_0 20 rfl rfl)
theorem dX5_carrying_23 : decode cX5_carrying 23 = .ok (.iconst 1, 1) := dk_4 (dk_at dksX5_carrying_0 23 rfl rfl)
theorem dX5_carrying_24 : decode cX5_carrying 24 = .ok (.goto 4, 3) := dk_167 0 4 (dk_at dksX5_carrying_1 0 rfl rfl)
theorem dX5_carrying_27 : decode cX5_carrying 27 = .ok (.iconst 0, 1) := dk_3 (dk_at dksX5_carrying_1 3 rfl rfl)
theorem dX5_carrying_28 : decode cX5_carrying 28 = .ok (.iadd, 1) := dk_96 (dk_at dksX5_carrying_1 4 rfl rfl)
theorem dX5_carrying_29 : decode cX5_carrying 29 = .ok (.istore_n 1, 1) := dk_60 (dk_at dksX5_carrying_1 5 rfl rfl)
theorem dX5_carrying_30 : decode cX5_carrying 30 = .ok (.iinc 2 1, 3) := dk_132 2 1 (dk_at dksX5_carrying_1 6 rfl rfl)
theorem dX5_carrying_33 : decode cX5_carrying 33 = .ok (.goto (-29), 3) := dk_167 255 227 (dk_at dksX5_carrying_1 9 rfl rfl)
theorem dX5_carrying_36 : decode cX5_carrying 36 = .ok (.iload_n 1, 1) := dk_27 (dk_at dksX5_carrying_1 12 rfl rfl)
theorem dX5_carrying_37 : decode cX5_carrying 37 = .ok (.ireturn, 1) := dk_172 (dk_at dksX5_carrying_1 13 rfl rfl)
abbrev cX5_pairs : ByteArray := prog_11_method_68_code
def yX5_pairs : MethodName := ⟨RX5, "pairs", "()I"⟩
def dkwX5_pairs_2 : List UInt8 := [132, 4, 1, 167, 255, 233, 132, 2, 1, 167, 255, 206, 27, 172]
abbrev dktX5_pairs_2 : List UInt8 := dkwX5_pairs_2 ++ []
def dkwX5_pairs_1 : List UInt8 := [54, 4, 21, 4, 42, 180, 0, 7, 3, 46, 162, 0, 18, 27, 29, 21, 4, 122, 4, 126, 96, 60]
abbrev dktX5_pairs_1 : List UInt8 := dkwX5_pairs_1 ++ dktX5_pairs_2
def dkwX5_pairs_0 : List UInt8 := [3, 60, 3, 61, 28, 42, 180, 0, 7, 3, 46, 162, 0, 46, 42, 28, 182, 0, 164, 62, 28, 4, 96]
abbrev dktX5_pairs_0 : List UInt8 := dkwX5_pairs_0 ++ dktX5_pairs_1
theorem dksX5_pairs_0 : cX5_pairs.data.toList.drop 0 = dktX5_pairs_0 := by decide +kernel
theorem dksX5_pairs_1 : cX5_pairs.data.toList.drop 23 = dktX5_pairs_1 := dk_seg dksX5_pairs_0 23 rfl rfl
theorem dksX5_pairs_2 : cX5_pairs.data.toList.drop 45 = dktX5_pairs_2 := dk_seg dksX5_pairs_1 22 rfl rfl
theorem dX5_pairs_0 : decode cX5_pairs 0 = .ok (.iconst 0, 1) := dk_3 (dk_at dksX5_pairs_0 0 rfl rfl)
theorem dX5_pairs_1 : decode cX5_pairs 1 = .ok (.istore_n 1, 1) := dk_60 (dk_at dksX5_pairs_0 1 rfl rfl)
theorem dX5_pairs_2 : decode cX5_pairs 2 = .ok (.iconst 0, 1) := dk_3 (dk_at dksX5_pairs_0 2 rfl rfl)
theorem dX5_pairs_3 : decode cX5_pairs 3 = .ok (.istore_n 2, 1) := dk_61 (dk_at dksX5_pairs_0 3 rfl rfl)
theorem dX5_pairs_4 : decode cX5_pairs 4 = .ok (.iload_n 2, 1) := dk_28 (dk_at dksX5_pairs_0 4 rfl rfl)
theorem dX5_pairs_5 : decode cX5_pairs 5 = .ok (.aload_n 0, 1) := dk_42 (dk_at dksX5_pairs_0 5 rfl rfl)
theorem dX5_pairs_6 : decode cX5_pairs 6 = .ok (.getfield 7, 3) := dk_180 0 7 (dk_at dksX5_pairs_0 6 rfl rfl)
theorem dX5_pairs_9 : decode cX5_pairs 9 = .ok (.iconst 0, 1) := dk_3 (dk_at dksX5_pairs_0 9 rfl rfl)
theorem dX5_pairs_10 : decode cX5_pairs 10 = .ok (.iaload, 1) := dk_46 (dk_at dksX5_pairs_0 10 rfl rfl)
theorem dX5_pairs_11 : decode cX5_pairs 11 = .ok (.if_icmp .ge 46, 3) := dk_162 0 46 (dk_at dksX5_pairs_0 11 rfl rfl)
theorem dX5_pairs_14 : decode cX5_pairs 14 = .ok (.aload_n 0, 1) := dk_42 (dk_at dksX5_pairs_0 14 rfl rfl)
theorem dX5_pairs_15 : decode cX5_pairs 15 = .ok (.iload_n 2, 1) := dk_28 (dk_at dksX5_pairs_0 15 rfl rfl)
theorem dX5_pairs_16 : decode cX5_pairs 16 = .ok (.invokevirtual 164, 3) := dk_182 0 164 (dk_at dksX5_pairs_0 16 rfl rfl)
theorem dX5_pairs_19 : decode cX5_pairs 19 = .ok (.istore_n 3, 1) := dk_62 (dk_at dksX5_pairs_0 19 rfl rfl)
theorem dX5_pairs_20 : decode cX5_pairs 20 = .ok (.iload_n 2, 1) := dk_28 (dk_at dksX5_pairs_0 20 rfl rfl)
theorem dX5_pairs_21 : decode cX5_pairs 21 = .ok (.iconst 1, 1) := dk_4 (dk_at dksX5_pairs_0 21 rfl rfl)
theorem dX5_pairs_22 : decode cX5_pairs 22 = .ok (.iadd, 1) := dk_96 (dk_at dksX5_pairs_0 22 rfl rfl)
theorem dX5_pairs_23 : decode cX5_pairs 23 = .ok (.istore 4, 2) := dk_54 4 (dk_at dksX5_pairs_1 0 rfl rfl)
theorem dX5_pairs_25 : decode cX5_pairs 25 = .ok (.iload 4, 2) := dk_21 4 (dk_at dksX5_pairs_1 2 rfl rfl)
theorem dX5_pairs_27 : decode cX5_pairs 27 = .ok (.aload_n 0, 1) := dk_42 (dk_at dksX5_pairs_1 4 rfl rfl)
theorem dX5_pairs_28 : decode cX5_pairs 28 = .ok (.getfield 7, 3) := dk_180 0 7 (dk_at dksX5_pairs_1 5 rfl rfl)
theorem dX5_pairs_31 : decode cX5_pairs 31 = .ok (.iconst 0, 1) := dk_3 (dk_at dksX5_pairs_1 8 rfl rfl)
theorem dX5_pairs_32 : decode cX5_pairs 32 = .ok (.iaload, 1) := dk_46 (dk_at dksX5_pairs_1 9 rfl rfl)
theorem dX5_pairs_33 : decode cX5_pairs 33 = .ok (.if_icmp .ge 18, 3) := dk_162 0 18 (dk_at dksX5_pairs_1 10 rfl rfl)
theorem dX5_pairs_36 : decode cX5_pairs 36 = .ok (.iload_n 1, 1) := dk_27 (dk_at dksX5_pairs_1 13 rfl rfl)
theorem dX5_pairs_37 : decode cX5_pairs 37 = .ok (.iload_n 3, 1) := dk_29 (dk_at dksX5_pairs_1 14 rfl rfl)
theorem dX5_pairs_38 : decode cX5_pairs 38 = .ok (.iload 4, 2) := dk_21 4 (dk_at dksX5_pairs_1 15 rfl rfl)
theorem dX5_pairs_40 : decode cX5_pairs 40 = .ok (.ishr, 1) := dk_122 (dk_at dksX5_pairs_1 17 rfl rfl)
theorem dX5_pairs_41 : decode cX5_pairs 41 = .ok (.iconst 1, 1) := dk_4 (dk_at dksX5_pairs_1 18 rfl rfl)
theorem dX5_pairs_42 : decode cX5_pairs 42 = .ok (.iand, 1) := dk_126 (dk_at dksX5_pairs_1 19 rfl rfl)
theorem dX5_pairs_43 : decode cX5_pairs 43 = .ok (.iadd, 1) := dk_96 (dk_at dksX5_pairs_1 20 rfl rfl)
theorem dX5_pairs_44 : decode cX5_pairs 44 = .ok (.istore_n 1, 1) := dk_60 (dk_at dksX5_pairs_1 21 rfl rfl)
theorem dX5_pairs_45 : decode cX5_pairs 45 = .ok (.iinc 4 1, 3) := dk_132 4 1 (dk_at dksX5_pairs_2 0 rfl rfl)
theorem dX5_pairs_48 : decode cX5_pairs 48 = .ok (.goto (-23), 3) := dk_167 255 233 (dk_at dksX5_pairs_2 3 rfl rfl)
theorem dX5_pairs_51 : decode cX5_pairs 51 = .ok (.iinc 2 1, 3) := dk_132 2 1 (dk_at dksX5_pairs_2 6 rfl rfl)
theorem dX5_pairs_54 : decode cX5_pairs 54 = .ok (.goto (-50), 3) := dk_167 255 206 (dk_at dksX5_pairs_2 9 rfl rfl)
theorem dX5_pairs_57 : decode cX5_pairs 57 = .ok (.iload_n 1, 1) := dk_27 (dk_at dksX5_pairs_2 12 rfl rfl)
theorem dX5_pairs_58 : decode cX5_pairs 58 = .ok (.ireturn, 1) := dk_172 (dk_at dksX5_pairs_2 13 rfl rfl)
abbrev cX5_isForest : ByteArray := prog_11_method_72_code
def yX5_isForest : MethodName := ⟨RX5, "isForest", "()Z"⟩
def dkwX5_isForest_0 : List UInt8 := [42, 3, 181, 0, 38, 42, 182, 0, 198, 172]
abbrev dktX5_isForest_0 : List UInt8 := dkwX5_isForest_0 ++ []
theorem dksX5_isForest_0 : cX5_isForest.data.toList.drop 0 = dktX5_isForest_0 := by decide +kernel
theorem dX5_isForest_0 : decode cX5_isForest 0 = .ok (.aload_n 0, 1) := dk_42 (dk_at dksX5_isForest_0 0 rfl rfl)
theorem dX5_isForest_1 : decode cX5_isForest 1 = .ok (.iconst 0, 1) := dk_3 (dk_at dksX5_isForest_0 1 rfl rfl)
theorem dX5_isForest_2 : decode cX5_isForest 2 = .ok (.putfield 38, 3) := dk_181 0 38 (dk_at dksX5_isForest_0 2 rfl rfl)
theorem dX5_isForest_5 : decode cX5_isForest 5 = .ok (.aload_n 0, 1) := dk_42 (dk_at dksX5_isForest_0 5 rfl rfl)
theorem dX5_isForest_6 : decode cX5_isForest 6 = .ok (.invokevirtual 198, 3) := dk_182 0 198 (dk_at dksX5_isForest_0 6 rfl rfl)
theorem dX5_isForest_9 : decode cX5_isForest 9 = .ok (.ireturn, 1) := dk_172 (dk_at dksX5_isForest_0 9 rfl rfl)
abbrev cX5_isWithoutCycle : ByteArray := prog_11_method_71_code
def yX5_isWithoutCycle : MethodName := ⟨RX5, "isWithoutCycle", "()Z"⟩
def dkwX5_isWithoutCycle_2 : List UInt8 := [42, 180, 0, 7, 3, 46, 160, 0, 7, 4, 167, 0, 4, 3, 172]
abbrev dktX5_isWithoutCycle_2 : List UInt8 := dkwX5_isWithoutCycle_2 ++ []
def dkwX5_isWithoutCycle_1 : List UInt8 := [100, 126, 154, 0, 7, 4, 167, 0, 4, 3, 96, 60, 132, 2, 1, 167, 255, 221, 42, 182, 0, 188, 27, 96]
abbrev dktX5_isWithoutCycle_1 : List UInt8 := dkwX5_isWithoutCycle_1 ++ dktX5_isWithoutCycle_2
def dkwX5_isWithoutCycle_0 : List UInt8 := [3, 60, 3, 61, 28, 42, 180, 0, 7, 3, 46, 162, 0, 31, 27, 42, 28, 182, 0, 164, 4, 28, 120, 4]
abbrev dktX5_isWithoutCycle_0 : List UInt8 := dkwX5_isWithoutCycle_0 ++ dktX5_isWithoutCycle_1
theorem dksX5_isWithoutCycle_0 : cX5_isWithoutCycle.data.toList.drop 0 = dktX5_isWithoutCycle_0 := by decide +kernel
theorem dksX5_isWithoutCycle_1 : cX5_isWithoutCycle.data.toList.drop 24 = dktX5_isWithoutCycle_1 := dk_seg dksX5_isWithoutCycle_0 24 rfl rfl
theorem dksX5_isWithoutCycle_2 : cX5_isWithoutCycle.data.toList.drop 48 = dktX5_isWithoutCycle_2 := dk_seg dksX5_isWithoutCycle_1 24 rfl rfl
theorem dX5_isWithoutCycle_0 : decode cX5_isWithoutCycle 0 = .ok (.iconst 0, 1) := dk_3 (dk_at dksX5_isWithoutCycle_0 0 rfl rfl)
theorem dX5_isWithoutCycle_1 : decode cX5_isWithoutCycle 1 = .ok (.istore_n 1, 1) := dk_60 (dk_at dksX5_isWithoutCycle_0 1 rfl rfl)
theorem dX5_isWithoutCycle_2 : decode cX5_isWithoutCycle 2 = .ok (.iconst 0, 1) := dk_3 (dk_at dksX5_isWithoutCycle_0 2 rfl rfl)
theorem dX5_isWithoutCycle_3 : decode cX5_isWithoutCycle 3 = .ok (.istore_n 2, 1) := dk_61 (dk_at dksX5_isWithoutCycle_0 3 rfl rfl)
theorem dX5_isWithoutCycle_4 : decode cX5_isWithoutCycle 4 = .ok (.iload_n 2, 1) := dk_28 (dk_at dksX5_isWithoutCycle_0 4 rfl rfl)
theorem dX5_isWithoutCycle_5 : decode cX5_isWithoutCycle 5 = .ok (.aload_n 0, 1) := dk_42 (dk_at dksX5_isWithoutCycle_0 5 rfl rfl)
theorem dX5_isWithoutCycle_6 : decode cX5_isWithoutCycle 6 = .ok (.getfield 7, 3) := dk_180 0 7 (dk_at dksX5_isWithoutCycle_0 6 rfl rfl)
theorem dX5_isWithoutCycle_9 : decode cX5_isWithoutCycle 9 = .ok (.iconst 0, 1) := dk_3 (dk_at dksX5_isWithoutCycle_0 9 rfl rfl)
theorem dX5_isWithoutCycle_10 : decode cX5_isWithoutCycle 10 = .ok (.iaload, 1) := dk_46 (dk_at dksX5_isWithoutCycle_0 10 rfl rfl)
theorem dX5_isWithoutCycle_11 : decode cX5_isWithoutCycle 11 = .ok (.if_icmp .ge 31, 3) := dk_162 0 31 (dk_at dksX5_isWithoutCycle_0 11 rfl rfl)
theorem dX5_isWithoutCycle_14 : decode cX5_isWithoutCycle 14 = .ok (.iload_n 1, 1) := dk_27 (dk_at dksX5_isWithoutCycle_0 14 rfl rfl)
theorem dX5_isWithoutCycle_15 : decode cX5_isWithoutCycle 15 = .ok (.aload_n 0, 1) := dk_42 (dk_at dksX5_isWithoutCycle_0 15 rfl rfl)
theorem dX5_isWithoutCycle_16 : decode cX5_isWithoutCycle 16 = .ok (.iload_n 2, 1) := dk_28 (dk_at dksX5_isWithoutCycle_0 16 rfl rfl)
theorem dX5_isWithoutCycle_17 : decode cX5_isWithoutCycle 17 = .ok (.invokevirtual 164, 3) := dk_182 0 164 (dk_at dksX5_isWithoutCycle_0 17 rfl rfl)
theorem dX5_isWithoutCycle_20 : decode cX5_isWithoutCycle 20 = .ok (.iconst 1, 1) := dk_4 (dk_at dksX5_isWithoutCycle_0 20 rfl rfl)
theorem dX5_isWithoutCycle_21 : decode cX5_isWithoutCycle 21 = .ok (.iload_n 2, 1) := dk_28 (dk_at dksX5_isWithoutCycle_0 21 rfl rfl)
theorem dX5_isWithoutCycle_22 : decode cX5_isWithoutCycle 22 = .ok (.ishl, 1) := dk_120 (dk_at dksX5_isWithoutCycle_0 22 rfl rfl)
theorem dX5_isWithoutCycle_23 : decode cX5_isWithoutCycle 23 = .ok (.iconst 1, 1) := dk_4 (dk_at dksX5_isWithoutCycle_0 23 rfl rfl)
theorem dX5_isWithoutCycle_24 : decode cX5_isWithoutCycle 24 = .ok (.isub, 1) := dk_100 (dk_at dksX5_isWithoutCycle_1 0 rfl rfl)
theorem dX5_isWithoutCycle_25 : decode cX5_isWithoutCycle 25 = .ok (.iand, 1) := dk_126 (dk_at dksX5_isWithoutCycle_1 1 rfl rfl)
theorem dX5_isWithoutCycle_26 : decode cX5_isWithoutCycle 26 = .ok (.ifCond .ne 7, 3) := dk_154 0 7 (dk_at dksX5_isWithoutCycle_1 2 rfl rfl)
theorem dX5_isWithoutCycle_29 : decode cX5_isWithoutCycle 29 = .ok (.iconst 1, 1) := dk_4 (dk_at dksX5_isWithoutCycle_1 5 rfl rfl)
theorem dX5_isWithoutCycle_30 : decode cX5_isWithoutCycle 30 = .ok (.goto 4, 3) := dk_167 0 4 (dk_at dksX5_isWithoutCycle_1 6 rfl rfl)
theorem dX5_isWithoutCycle_33 : decode cX5_isWithoutCycle 33 = .ok (.iconst 0, 1) := dk_3 (dk_at dksX5_isWithoutCycle_1 9 rfl rfl)
theorem dX5_isWithoutCycle_34 : decode cX5_isWithoutCycle 34 = .ok (.iadd, 1) := dk_96 (dk_at dksX5_isWithoutCycle_1 10 rfl rfl)
theorem dX5_isWithoutCycle_35 : decode cX5_isWithoutCycle 35 = .ok (.istore_n 1, 1) := dk_60 (dk_at dksX5_isWithoutCycle_1 11 rfl rfl)
theorem dX5_isWithoutCycle_36 : decode cX5_isWithoutCycle 36 = .ok (.iinc 2 1, 3) := dk_132 2 1 (dk_at dksX5_isWithoutCycle_1 12 rfl rfl)
theorem dX5_isWithoutCycle_39 : decode cX5_isWithoutCycle 39 = .ok (.goto (-35), 3) := dk_167 255 221 (dk_at dksX5_isWithoutCycle_1 15 rfl rfl)
theorem dX5_isWithoutCycle_42 : decode cX5_isWithoutCycle 42 = .ok (.aload_n 0, 1) := dk_42 (dk_at dksX5_isWithoutCycle_1 18 rfl rfl)
theorem dX5_isWithoutCycle_43 : decode cX5_isWithoutCycle 43 = .ok (.invokevirtual 188, 3) := dk_182 0 188 (dk_at dksX5_isWithoutCycle_1 19 rfl rfl)
theorem dX5_isWithoutCycle_46 : decode cX5_isWithoutCycle 46 = .ok (.iload_n 1, 1) := dk_27 (dk_at dksX5_isWithoutCycle_1 22 rfl rfl)
theorem dX5_isWithoutCycle_47 : decode cX5_isWithoutCycle 47 = .ok (.iadd, 1) := dk_96 (dk_at dksX5_isWithoutCycle_1 23 rfl rfl)
theorem dX5_isWithoutCycle_48 : decode cX5_isWithoutCycle 48 = .ok (.aload_n 0, 1) := dk_42 (dk_at dksX5_isWithoutCycle_2 0 rfl rfl)
theorem dX5_isWithoutCycle_49 : decode cX5_isWithoutCycle 49 = .ok (.getfield 7, 3) := dk_180 0 7 (dk_at dksX5_isWithoutCycle_2 1 rfl rfl)
theorem dX5_isWithoutCycle_52 : decode cX5_isWithoutCycle 52 = .ok (.iconst 0, 1) := dk_3 (dk_at dksX5_isWithoutCycle_2 4 rfl rfl)
theorem dX5_isWithoutCycle_53 : decode cX5_isWithoutCycle 53 = .ok (.iaload, 1) := dk_46 (dk_at dksX5_isWithoutCycle_2 5 rfl rfl)
theorem dX5_isWithoutCycle_54 : decode cX5_isWithoutCycle 54 = .ok (.if_icmp .ne 7, 3) := dk_160 0 7 (dk_at dksX5_isWithoutCycle_2 6 rfl rfl)
theorem dX5_isWithoutCycle_57 : decode cX5_isWithoutCycle 57 = .ok (.iconst 1, 1) := dk_4 (dk_at dksX5_isWithoutCycle_2 9 rfl rfl)
theorem dX5_isWithoutCycle_58 : decode cX5_isWithoutCycle 58 = .ok (.goto 4, 3) := dk_167 0 4 (dk_at dksX5_isWithoutCycle_2 10 rfl rfl)
theorem dX5_isWithoutCycle_61 : decode cX5_isWithoutCycle 61 = .ok (.iconst 0, 1) := dk_3 (dk_at dksX5_isWithoutCycle_2 13 rfl rfl)
theorem dX5_isWithoutCycle_62 : decode cX5_isWithoutCycle 62 = .ok (.ireturn, 1) := dk_172 (dk_at dksX5_isWithoutCycle_2 14 rfl rfl)
abbrev cX5_type : ByteArray := prog_11_method_73_code
def yX5_type : MethodName := ⟨RX5, "type", "(I)I"⟩
def dkwX5_type_2 : List UInt8 := [4, 96, 181, 0, 202, 42, 42, 180, 0, 202, 182, 0, 45, 172]
abbrev dktX5_type_2 : List UInt8 := dkwX5_type_2 ++ []
def dkwX5_type_1 : List UInt8 := [160, 0, 9, 42, 5, 182, 0, 70, 172, 42, 180, 0, 19, 42, 180, 0, 202, 27, 79, 42, 89, 180, 0, 202]
abbrev dktX5_type_1 : List UInt8 := dkwX5_type_1 ++ dktX5_type_2
def dkwX5_type_0 : List UInt8 := [27, 3, 16, 127, 184, 0, 49, 154, 0, 9, 42, 4, 182, 0, 70, 172, 42, 180, 0, 202, 16, 120]
abbrev dktX5_type_0 : List UInt8 := dkwX5_type_0 ++ dktX5_type_1
theorem dksX5_type_0 : cX5_type.data.toList.drop 0 = dktX5_type_0 := by decide +kernel
theorem dksX5_type_1 : cX5_type.data.toList.drop 22 = dktX5_type_1 := dk_seg dksX5_type_0 22 rfl rfl
theorem dksX5_type_2 : cX5_type.data.toList.drop 46 = dktX5_type_2 := dk_seg dksX5_type_1 24 rfl rfl
theorem dX5_type_0 : decode cX5_type 0 = .ok (.iload_n 1, 1) := dk_27 (dk_at dksX5_type_0 0 rfl rfl)
theorem dX5_type_1 : decode cX5_type 1 = .ok (.iconst 0, 1) := dk_3 (dk_at dksX5_type_0 1 rfl rfl)
theorem dX5_type_2 : decode cX5_type 2 = .ok (.bipush 127, 2) := dk_16 127 (dk_at dksX5_type_0 2 rfl rfl)
theorem dX5_type_4 : decode cX5_type 4 = .ok (.invokestatic 49, 3) := dk_184 0 49 (dk_at dksX5_type_0 4 rfl rfl)
theorem dX5_type_7 : decode cX5_type 7 = .ok (.ifCond .ne 9, 3) := dk_154 0 9 (dk_at dksX5_type_0 7 rfl rfl)
theorem dX5_type_10 : decode cX5_type 10 = .ok (.aload_n 0, 1) := dk_42 (dk_at dksX5_type_0 10 rfl rfl)
theorem dX5_type_11 : decode cX5_type 11 = .ok (.iconst 1, 1) := dk_4 (dk_at dksX5_type_0 11 rfl rfl)
theorem dX5_type_12 : decode cX5_type 12 = .ok (.invokevirtual 70, 3) := dk_182 0 70 (dk_at dksX5_type_0 12 rfl rfl)
theorem dX5_type_15 : decode cX5_type 15 = .ok (.ireturn, 1) := dk_172 (dk_at dksX5_type_0 15 rfl rfl)
theorem dX5_type_16 : decode cX5_type 16 = .ok (.aload_n 0, 1) := dk_42 (dk_at dksX5_type_0 16 rfl rfl)
theorem dX5_type_17 : decode cX5_type 17 = .ok (.getfield 202, 3) := dk_180 0 202 (dk_at dksX5_type_0 17 rfl rfl)
theorem dX5_type_20 : decode cX5_type 20 = .ok (.bipush 120, 2) := dk_16 120 (dk_at dksX5_type_0 20 rfl rfl)
theorem dX5_type_22 : decode cX5_type 22 = .ok (.if_icmp .ne 9, 3) := dk_160 0 9 (dk_at dksX5_type_1 0 rfl rfl)
theorem dX5_type_25 : decode cX5_type 25 = .ok (.aload_n 0, 1) := dk_42 (dk_at dksX5_type_1 3 rfl rfl)
theorem dX5_type_26 : decode cX5_type 26 = .ok (.iconst 2, 1) := dk_5 (dk_at dksX5_type_1 4 rfl rfl)
theorem dX5_type_27 : decode cX5_type 27 = .ok (.invokevirtual 70, 3) := dk_182 0 70 (dk_at dksX5_type_1 5 rfl rfl)
theorem dX5_type_30 : decode cX5_type 30 = .ok (.ireturn, 1) := dk_172 (dk_at dksX5_type_1 8 rfl rfl)
theorem dX5_type_31 : decode cX5_type 31 = .ok (.aload_n 0, 1) := dk_42 (dk_at dksX5_type_1 9 rfl rfl)
theorem dX5_type_32 : decode cX5_type 32 = .ok (.getfield 19, 3) := dk_180 0 19 (dk_at dksX5_type_1 10 rfl rfl)
theorem dX5_type_35 : decode cX5_type 35 = .ok (.aload_n 0, 1) := dk_42 (dk_at dksX5_type_1 13 rfl rfl)
theorem dX5_type_36 : decode cX5_type 36 = .ok (.getfield 202, 3) := dk_180 0 202 (dk_at dksX5_type_1 14 rfl rfl)
theorem dX5_type_39 : decode cX5_type 39 = .ok (.iload_n 1, 1) := dk_27 (dk_at dksX5_type_1 17 rfl rfl)
theorem dX5_type_40 : decode cX5_type 40 = .ok (.iastore, 1) := dk_79 (dk_at dksX5_type_1 18 rfl rfl)
theorem dX5_type_41 : decode cX5_type 41 = .ok (.aload_n 0, 1) := dk_42 (dk_at dksX5_type_1 19 rfl rfl)
theorem dX5_type_42 : decode cX5_type 42 = .ok (.dup, 1) := dk_89 (dk_at dksX5_type_1 20 rfl rfl)
theorem dX5_type_43 : decode cX5_type 43 = .ok (.getfield 202, 3) := dk_180 0 202 (dk_at dksX5_type_1 21 rfl rfl)
theorem dX5_type_46 : decode cX5_type 46 = .ok (.iconst 1, 1) := dk_4 (dk_at dksX5_type_2 0 rfl rfl)
theorem dX5_type_47 : decode cX5_type 47 = .ok (.iadd, 1) := dk_96 (dk_at dksX5_type_2 1 rfl rfl)
theorem dX5_type_48 : decode cX5_type 48 = .ok (.putfield 202, 3) := dk_181 0 202 (dk_at dksX5_type_2 2 rfl rfl)
theorem dX5_type_51 : decode cX5_type 51 = .ok (.aload_n 0, 1) := dk_42 (dk_at dksX5_type_2 5 rfl rfl)
theorem dX5_type_52 : decode cX5_type 52 = .ok (.aload_n 0, 1) := dk_42 (dk_at dksX5_type_2 6 rfl rfl)
theorem dX5_type_53 : decode cX5_type 53 = .ok (.getfield 202, 3) := dk_180 0 202 (dk_at dksX5_type_2 7 rfl rfl)
theorem dX5_type_56 : decode cX5_type 56 = .ok (.invokevirtual 45, 3) := dk_182 0 45 (dk_at dksX5_type_2 10 rfl rfl)
theorem dX5_type_59 : decode cX5_type 59 = .ok (.ireturn, 1) := dk_172 (dk_at dksX5_type_2 13 rfl rfl)
abbrev cX5_clearScript : ByteArray := prog_11_method_74_code
def yX5_clearScript : MethodName := ⟨RX5, "clearScript", "()I"⟩
def dkwX5_clearScript_0 : List UInt8 := [42, 180, 0, 202, 60, 42, 3, 181, 0, 202, 42, 27, 182, 0, 45, 172]
abbrev dktX5_clearScript_0 : List UInt8 := dkwX5_clearScript_0 ++ []
theorem dksX5_clearScript_0 : cX5_clearScript.data.toList.drop 0 = dktX5_clearScript_0 := by decide +kernel
theorem dX5_clearScript_0 : decode cX5_clearScript 0 = .ok (.aload_n 0, 1) := dk_42 (dk_at dksX5_clearScript_0 0 rfl rfl)
theorem dX5_clearScript_1 : decode cX5_clearScript 1 = .ok (.getfield 202, 3) := dk_180 0 202 (dk_at dksX5_clearScript_0 1 rfl rfl)
theorem dX5_clearScript_4 : decode cX5_clearScript 4 = .ok (.istore_n 1, 1) := dk_60 (dk_at dksX5_clearScript_0 4 rfl rfl)
theorem dX5_clearScript_5 : decode cX5_clearScript 5 = .ok (.aload_n 0, 1) := dk_42 (dk_at dksX5_clearScript_0 5 rfl rfl)
theorem dX5_clearScript_6 : decode cX5_clearScript 6 = .ok (.iconst 0, 1) := dk_3 (dk_at dksX5_clearScript_0 6 rfl rfl)
theorem dX5_clearScript_7 : decode cX5_clearScript 7 = .ok (.putfield 202, 3) := dk_181 0 202 (dk_at dksX5_clearScript_0 7 rfl rfl)
theorem dX5_clearScript_10 : decode cX5_clearScript 10 = .ok (.aload_n 0, 1) := dk_42 (dk_at dksX5_clearScript_0 10 rfl rfl)
theorem dX5_clearScript_11 : decode cX5_clearScript 11 = .ok (.iload_n 1, 1) := dk_27 (dk_at dksX5_clearScript_0 11 rfl rfl)
theorem dX5_clearScript_12 : decode cX5_clearScript 12 = .ok (.invokevirtual 45, 3) := dk_182 0 45 (dk_at dksX5_clearScript_0 12 rfl rfl)
theorem dX5_clearScript_15 : decode cX5_clearScript 15 = .ok (.ireturn, 1) := dk_172 (dk_at dksX5_clearScript_0 15 rfl rfl)
abbrev cX5_run : ByteArray := prog_11_method_82_code
def yX5_run : MethodName := ⟨RX5, "run", "()I"⟩
def dkwX5_run_5 : List UInt8 := [182, 0, 227, 167, 255, 205, 42, 27, 182, 0, 76, 172]
abbrev dktX5_run_5 : List UInt8 := dkwX5_run_5 ++ []
def dkwX5_run_4 : List UInt8 := [154, 0, 7, 4, 167, 0, 4, 3, 61, 27, 28, 153, 0, 7, 4, 167, 0, 4, 3, 96, 60, 42]
abbrev dktX5_run_4 : List UInt8 := dkwX5_run_4 ++ dktX5_run_5
def dkwX5_run_3 : List UInt8 := [42, 180, 0, 202, 162, 0, 46, 28, 153, 0, 42, 42, 182, 0, 233, 153, 0, 14, 42, 182, 0, 236]
abbrev dktX5_run_3 : List UInt8 := dkwX5_run_3 ++ dktX5_run_4
def dkwX5_run_2 : List UInt8 := [167, 255, 226, 42, 182, 0, 73, 3, 60, 4, 61, 42, 3, 181, 0, 205, 42, 182, 0, 227, 42, 180, 0, 205]
abbrev dktX5_run_2 : List UInt8 := dkwX5_run_2 ++ dktX5_run_3
def dkwX5_run_1 : List UInt8 := [162, 0, 25, 42, 182, 0, 233, 154, 0, 11, 16, 246, 42, 180, 0, 205, 100, 172, 42, 182, 0, 227]
abbrev dktX5_run_1 : List UInt8 := dkwX5_run_1 ++ dktX5_run_2
def dkwX5_run_0 : List UInt8 := [42, 3, 181, 0, 38, 42, 3, 181, 0, 205, 42, 182, 0, 227, 42, 180, 0, 205, 42, 180, 0, 202]
abbrev dktX5_run_0 : List UInt8 := dkwX5_run_0 ++ dktX5_run_1
theorem dksX5_run_0 : cX5_run.data.toList.drop 0 = dktX5_run_0 := by decide +kernel
theorem dksX5_run_1 : cX5_run.data.toList.drop 22 = dktX5_run_1 := dk_seg dksX5_run_0 22 rfl rfl
theorem dksX5_run_2 : cX5_run.data.toList.drop 44 = dktX5_run_2 := dk_seg dksX5_run_1 22 rfl rfl
theorem dksX5_run_3 : cX5_run.data.toList.drop 68 = dktX5_run_3 := dk_seg dksX5_run_2 24 rfl rfl
theorem dksX5_run_4 : cX5_run.data.toList.drop 90 = dktX5_run_4 := dk_seg dksX5_run_3 22 rfl rfl
theorem dksX5_run_5 : cX5_run.data.toList.drop 112 = dktX5_run_5 := dk_seg dksX5_run_4 22 rfl rfl
theorem dX5_run_0 : decode cX5_run 0 = .ok (.aload_n 0, 1) := dk_42 (dk_at dksX5_run_0 0 rfl rfl)
theorem dX5_run_1 : decode cX5_run 1 = .ok (.iconst 0, 1) := dk_3 (dk_at dksX5_run_0 1 rfl rfl)
theorem dX5_run_2 : decode cX5_run 2 = .ok (.putfield 38, 3) := dk_181 0 38 (dk_at dksX5_run_0 2 rfl rfl)
theorem dX5_run_5 : decode cX5_run 5 = .ok (.aload_n 0, 1) := dk_42 (dk_at dksX5_run_0 5 rfl rfl)
theorem dX5_run_6 : decode cX5_run 6 = .ok (.iconst 0, 1) := dk_3 (dk_at dksX5_run_0 6 rfl rfl)
theorem dX5_run_7 : decode cX5_run 7 = .ok (.putfield 205, 3) := dk_181 0 205 (dk_at dksX5_run_0 7 rfl rfl)
theorem dX5_run_10 : decode cX5_run 10 = .ok (.aload_n 0, 1) := dk_42 (dk_at dksX5_run_0 10 rfl rfl)
theorem dX5_run_11 : decode cX5_run 11 = .ok (.invokevirtual 227, 3) := dk_182 0 227 (dk_at dksX5_run_0 11 rfl rfl)
theorem dX5_run_14 : decode cX5_run 14 = .ok (.aload_n 0, 1) := dk_42 (dk_at dksX5_run_0 14 rfl rfl)
theorem dX5_run_15 : decode cX5_run 15 = .ok (.getfield 205, 3) := dk_180 0 205 (dk_at dksX5_run_0 15 rfl rfl)
theorem dX5_run_18 : decode cX5_run 18 = .ok (.aload_n 0, 1) := dk_42 (dk_at dksX5_run_0 18 rfl rfl)
theorem dX5_run_19 : decode cX5_run 19 = .ok (.getfield 202, 3) := dk_180 0 202 (dk_at dksX5_run_0 19 rfl rfl)
theorem dX5_run_22 : decode cX5_run 22 = .ok (.if_icmp .ge 25, 3) := dk_162 0 25 (dk_at dksX5_run_1 0 rfl rfl)
theorem dX5_run_25 : decode cX5_run 25 = .ok (.aload_n 0, 1) := dk_42 (dk_at dksX5_run_1 3 rfl rfl)
theorem dX5_run_26 : decode cX5_run 26 = .ok (.invokevirtual 233, 3) := dk_182 0 233 (dk_at dksX5_run_1 4 rfl rfl)
theorem dX5_run_29 : decode cX5_run 29 = .ok (.ifCond .ne 11, 3) := dk_154 0 11 (dk_at dksX5_run_1 7 rfl rfl)
theorem dX5_run_32 : decode cX5_run 32 = .ok (.bipush (-10), 2) := dk_16 246 (dk_at dksX5_run_1 10 rfl rfl)
theorem dX5_run_34 : decode cX5_run 34 = .ok (.aload_n 0, 1) := dk_42 (dk_at dksX5_run_1 12 rfl rfl)
theorem dX5_run_35 : decode cX5_run 35 = .ok (.getfield 205, 3) := dk_180 0 205 (dk_at dksX5_run_1 13 rfl rfl)
theorem dX5_run_38 : decode cX5_run 38 = .ok (.isub, 1) := dk_100 (dk_at dksX5_run_1 16 rfl rfl)
theorem dX5_run_39 : decode cX5_run 39 = .ok (.ireturn, 1) := dk_172 (dk_at dksX5_run_1 17 rfl rfl)
theorem dX5_run_40 : decode cX5_run 40 = .ok (.aload_n 0, 1) := dk_42 (dk_at dksX5_run_1 18 rfl rfl)
theorem dX5_run_41 : decode cX5_run 41 = .ok (.invokevirtual 227, 3) := dk_182 0 227 (dk_at dksX5_run_1 19 rfl rfl)
theorem dX5_run_44 : decode cX5_run 44 = .ok (.goto (-30), 3) := dk_167 255 226 (dk_at dksX5_run_2 0 rfl rfl)
theorem dX5_run_47 : decode cX5_run 47 = .ok (.aload_n 0, 1) := dk_42 (dk_at dksX5_run_2 3 rfl rfl)
theorem dX5_run_48 : decode cX5_run 48 = .ok (.invokevirtual 73, 3) := dk_182 0 73 (dk_at dksX5_run_2 4 rfl rfl)
theorem dX5_run_51 : decode cX5_run 51 = .ok (.iconst 0, 1) := dk_3 (dk_at dksX5_run_2 7 rfl rfl)
theorem dX5_run_52 : decode cX5_run 52 = .ok (.istore_n 1, 1) := dk_60 (dk_at dksX5_run_2 8 rfl rfl)
theorem dX5_run_53 : decode cX5_run 53 = .ok (.iconst 1, 1) := dk_4 (dk_at dksX5_run_2 9 rfl rfl)
theorem dX5_run_54 : decode cX5_run 54 = .ok (.istore_n 2, 1) := dk_61 (dk_at dksX5_run_2 10 rfl rfl)
theorem dX5_run_55 : decode cX5_run 55 = .ok (.aload_n 0, 1) := dk_42 (dk_at dksX5_run_2 11 rfl rfl)
theorem dX5_run_56 : decode cX5_run 56 = .ok (.iconst 0, 1) := dk_3 (dk_at dksX5_run_2 12 rfl rfl)
theorem dX5_run_57 : decode cX5_run 57 = .ok (.putfield 205, 3) := dk_181 0 205 (dk_at dksX5_run_2 13 rfl rfl)
theorem dX5_run_60 : decode cX5_run 60 = .ok (.aload_n 0, 1) := dk_42 (dk_at dksX5_run_2 16 rfl rfl)
theorem dX5_run_61 : decode cX5_run 61 = .ok (.invokevirtual 227, 3) := dk_182 0 227 (dk_at dksX5_run_2 17 rfl rfl)
theorem dX5_run_64 : decode cX5_run 64 = .ok (.aload_n 0, 1) := dk_42 (dk_at dksX5_run_2 20 rfl rfl)
theorem dX5_run_65 : decode cX5_run 65 = .ok (.getfield 205, 3) := dk_180 0 205 (dk_at dksX5_run_2 21 rfl rfl)
theorem dX5_run_68 : decode cX5_run 68 = .ok (.aload_n 0, 1) := dk_42 (dk_at dksX5_run_3 0 rfl rfl)
theorem dX5_run_69 : decode cX5_run 69 = .ok (.getfield 202, 3) := dk_180 0 202 (dk_at dksX5_run_3 1 rfl rfl)
theorem dX5_run_72 : decode cX5_run 72 = .ok (.if_icmp .ge 46, 3) := dk_162 0 46 (dk_at dksX5_run_3 4 rfl rfl)
theorem dX5_run_75 : decode cX5_run 75 = .ok (.iload_n 2, 1) := dk_28 (dk_at dksX5_run_3 7 rfl rfl)
theorem dX5_run_76 : decode cX5_run 76 = .ok (.ifCond .eq 42, 3) := dk_153 0 42 (dk_at dksX5_run_3 8 rfl rfl)
theorem dX5_run_79 : decode cX5_run 79 = .ok (.aload_n 0, 1) := dk_42 (dk_at dksX5_run_3 11 rfl rfl)
theorem dX5_run_80 : decode cX5_run 80 = .ok (.invokevirtual 233, 3) := dk_182 0 233 (dk_at dksX5_run_3 12 rfl rfl)
theorem dX5_run_83 : decode cX5_run 83 = .ok (.ifCond .eq 14, 3) := dk_153 0 14 (dk_at dksX5_run_3 15 rfl rfl)
theorem dX5_run_86 : decode cX5_run 86 = .ok (.aload_n 0, 1) := dk_42 (dk_at dksX5_run_3 18 rfl rfl)
theorem dX5_run_87 : decode cX5_run 87 = .ok (.invokevirtual 236, 3) := dk_182 0 236 (dk_at dksX5_run_3 19 rfl rfl)
theorem dX5_run_90 : decode cX5_run 90 = .ok (.ifCond .ne 7, 3) := dk_154 0 7 (dk_at dksX5_run_4 0 rfl rfl)
theorem dX5_run_93 : decode cX5_run 93 = .ok (.iconst 1, 1) := dk_4 (dk_at dksX5_run_4 3 rfl rfl)
theorem dX5_run_94 : decode cX5_run 94 = .ok (.goto 4, 3) := dk_167 0 4 (dk_at dksX5_run_4 4 rfl rfl)
theorem dX5_run_97 : decode cX5_run 97 = .ok (.iconst 0, 1) := dk_3 (dk_at dksX5_run_4 7 rfl rfl)
theorem dX5_run_98 : decode cX5_run 98 = .ok (.istore_n 2, 1) := dk_61 (dk_at dksX5_run_4 8 rfl rfl)
theorem dX5_run_99 : decode cX5_run 99 = .ok (.iload_n 1, 1) := dk_27 (dk_at dksX5_run_4 9 rfl rfl)
theorem dX5_run_100 : decode cX5_run 100 = .ok (.iload_n 2, 1) := dk_28 (dk_at dksX5_run_4 10 rfl rfl)
theorem dX5_run_101 : decode cX5_run 101 = .ok (.ifCond .eq 7, 3) := dk_153 0 7 (dk_at dksX5_run_4 11 rfl rfl)
theorem dX5_run_104 : decode cX5_run 104 = .ok (.iconst 1, 1) := dk_4 (dk_at dksX5_run_4 14 rfl rfl)
theorem dX5_run_105 : decode cX5_run 105 = .ok (.goto 4, 3) := dk_167 0 4 (dk_at dksX5_run_4 15 rfl rfl)
theorem dX5_run_108 : decode cX5_run 108 = .ok (.iconst 0, 1) := dk_3 (dk_at dksX5_run_4 18 rfl rfl)
theorem dX5_run_109 : decode cX5_run 109 = .ok (.iadd, 1) := dk_96 (dk_at dksX5_run_4 19 rfl rfl)
theorem dX5_run_110 : decode cX5_run 110 = .ok (.istore_n 1, 1) := dk_60 (dk_at dksX5_run_4 20 rfl rfl)
theorem dX5_run_111 : decode cX5_run 111 = .ok (.aload_n 0, 1) := dk_42 (dk_at dksX5_run_4 21 rfl rfl)
theorem dX5_run_112 : decode cX5_run 112 = .ok (.invokevirtual 227, 3) := dk_182 0 227 (dk_at dksX5_run_5 0 rfl rfl)
theorem dX5_run_115 : decode cX5_run 115 = .ok (.goto (-51), 3) := dk_167 255 205 (dk_at dksX5_run_5 3 rfl rfl)
theorem dX5_run_118 : decode cX5_run 118 = .ok (.aload_n 0, 1) := dk_42 (dk_at dksX5_run_5 6 rfl rfl)
theorem dX5_run_119 : decode cX5_run 119 = .ok (.iload_n 1, 1) := dk_27 (dk_at dksX5_run_5 7 rfl rfl)
theorem dX5_run_120 : decode cX5_run 120 = .ok (.invokevirtual 76, 3) := dk_182 0 76 (dk_at dksX5_run_5 8 rfl rfl)
theorem dX5_run_123 : decode cX5_run 123 = .ok (.ireturn, 1) := dk_172 (dk_at dksX5_run_5 11 rfl rfl)
abbrev cX5_skips : ByteArray := prog_11_method_76_code
def yX5_skips : MethodName := ⟨RX5, "skips", "()V"⟩
def dkwX5_skips_1 : List UInt8 := [177]
abbrev dktX5_skips_1 : List UInt8 := dkwX5_skips_1 ++ []
def dkwX5_skips_0 : List UInt8 := [42, 16, 32, 16, 32, 182, 0, 208, 153, 0, 16, 42, 89, 180, 0, 205, 4, 96, 181, 0, 205, 167, 255, 235]
abbrev dktX5_skips_0 : List UInt8 := dkwX5_skips_0 ++ dktX5_skips_1
theorem dksX5_skips_0 : cX5_skips.data.toList.drop 0 = dktX5_skips_0 := by decide +kernel
theorem dksX5_skips_1 : cX5_skips.data.toList.drop 24 = dktX5_skips_1 := dk_seg dksX5_skips_0 24 rfl rfl
theorem dX5_skips_0 : decode cX5_skips 0 = .ok (.aload_n 0, 1) := dk_42 (dk_at dksX5_skips_0 0 rfl rfl)
theorem dX5_skips_1 : decode cX5_skips 1 = .ok (.bipush 32, 2) := dk_16 32 (dk_at dksX5_skips_0 1 rfl rfl)
theorem dX5_skips_3 : decode cX5_skips 3 = .ok (.bipush 32, 2) := dk_16 32 (dk_at dksX5_skips_0 3 rfl rfl)
theorem dX5_skips_5 : decode cX5_skips 5 = .ok (.invokevirtual 208, 3) := dk_182 0 208 (dk_at dksX5_skips_0 5 rfl rfl)
theorem dX5_skips_8 : decode cX5_skips 8 = .ok (.ifCond .eq 16, 3) := dk_153 0 16 (dk_at dksX5_skips_0 8 rfl rfl)
theorem dX5_skips_11 : decode cX5_skips 11 = .ok (.aload_n 0, 1) := dk_42 (dk_at dksX5_skips_0 11 rfl rfl)
theorem dX5_skips_12 : decode cX5_skips 12 = .ok (.dup, 1) := dk_89 (dk_at dksX5_skips_0 12 rfl rfl)
theorem dX5_skips_13 : decode cX5_skips 13 = .ok (.getfield 205, 3) := dk_180 0 205 (dk_at dksX5_skips_0 13 rfl rfl)
theorem dX5_skips_16 : decode cX5_skips 16 = .ok (.iconst 1, 1) := dk_4 (dk_at dksX5_skips_0 16 rfl rfl)
theorem dX5_skips_17 : decode cX5_skips 17 = .ok (.iadd, 1) := dk_96 (dk_at dksX5_skips_0 17 rfl rfl)
theorem dX5_skips_18 : decode cX5_skips 18 = .ok (.putfield 205, 3) := dk_181 0 205 (dk_at dksX5_skips_0 18 rfl rfl)
theorem dX5_skips_21 : decode cX5_skips 21 = .ok (.goto (-21), 3) := dk_167 255 235 (dk_at dksX5_skips_0 21 rfl rfl)
theorem dX5_skips_24 : decode cX5_skips 24 = .ok (.return_, 1) := dk_177 (dk_at dksX5_skips_1 0 rfl rfl)
abbrev cX5_isIn : ByteArray := prog_11_method_75_code
def yX5_isIn : MethodName := ⟨RX5, "isIn", "(II)Z"⟩
def dkwX5_isIn_1 : List UInt8 := [184, 0, 49, 153, 0, 7, 4, 167, 0, 4, 3, 172]
abbrev dktX5_isIn_1 : List UInt8 := dkwX5_isIn_1 ++ []
def dkwX5_isIn_0 : List UInt8 := [42, 180, 0, 205, 42, 180, 0, 202, 162, 0, 24, 42, 180, 0, 19, 42, 180, 0, 205, 46, 27, 28]
abbrev dktX5_isIn_0 : List UInt8 := dkwX5_isIn_0 ++ dktX5_isIn_1
theorem dksX5_isIn_0 : cX5_isIn.data.toList.drop 0 = dktX5_isIn_0 := by decide +kernel
theorem dksX5_isIn_1 : cX5_isIn.data.toList.drop 22 = dktX5_isIn_1 := dk_seg dksX5_isIn_0 22 rfl rfl
theorem dX5_isIn_0 : decode cX5_isIn 0 = .ok (.aload_n 0, 1) := dk_42 (dk_at dksX5_isIn_0 0 rfl rfl)
theorem dX5_isIn_1 : decode cX5_isIn 1 = .ok (.getfield 205, 3) := dk_180 0 205 (dk_at dksX5_isIn_0 1 rfl rfl)
theorem dX5_isIn_4 : decode cX5_isIn 4 = .ok (.aload_n 0, 1) := dk_42 (dk_at dksX5_isIn_0 4 rfl rfl)
theorem dX5_isIn_5 : decode cX5_isIn 5 = .ok (.getfield 202, 3) := dk_180 0 202 (dk_at dksX5_isIn_0 5 rfl rfl)
theorem dX5_isIn_8 : decode cX5_isIn 8 = .ok (.if_icmp .ge 24, 3) := dk_162 0 24 (dk_at dksX5_isIn_0 8 rfl rfl)
theorem dX5_isIn_11 : decode cX5_isIn 11 = .ok (.aload_n 0, 1) := dk_42 (dk_at dksX5_isIn_0 11 rfl rfl)
theorem dX5_isIn_12 : decode cX5_isIn 12 = .ok (.getfield 19, 3) := dk_180 0 19 (dk_at dksX5_isIn_0 12 rfl rfl)
theorem dX5_isIn_15 : decode cX5_isIn 15 = .ok (.aload_n 0, 1) := dk_42 (dk_at dksX5_isIn_0 15 rfl rfl)
theorem dX5_isIn_16 : decode cX5_isIn 16 = .ok (.getfield 205, 3) := dk_180 0 205 (dk_at dksX5_isIn_0 16 rfl rfl)
theorem dX5_isIn_19 : decode cX5_isIn 19 = .ok (.iaload, 1) := dk_46 (dk_at dksX5_isIn_0 19 rfl rfl)
theorem dX5_isIn_20 : decode cX5_isIn 20 = .ok (.iload_n 1, 1) := dk_27 (dk_at dksX5_isIn_0 20 rfl rfl)
theorem dX5_isIn_21 : decode cX5_isIn 21 = .ok (.iload_n 2, 1) := dk_28 (dk_at dksX5_isIn_0 21 rfl rfl)
theorem dX5_isIn_22 : decode cX5_isIn 22 = .ok (.invokestatic 49, 3) := dk_184 0 49 (dk_at dksX5_isIn_1 0 rfl rfl)
theorem dX5_isIn_25 : decode cX5_isIn 25 = .ok (.ifCond .eq 7, 3) := dk_153 0 7 (dk_at dksX5_isIn_1 3 rfl rfl)
theorem dX5_isIn_28 : decode cX5_isIn 28 = .ok (.iconst 1, 1) := dk_4 (dk_at dksX5_isIn_1 6 rfl rfl)
theorem dX5_isIn_29 : decode cX5_isIn 29 = .ok (.goto 4, 3) := dk_167 0 4 (dk_at dksX5_isIn_1 7 rfl rfl)
theorem dX5_isIn_32 : decode cX5_isIn 32 = .ok (.iconst 0, 1) := dk_3 (dk_at dksX5_isIn_1 10 rfl rfl)
theorem dX5_isIn_33 : decode cX5_isIn 33 = .ok (.ireturn, 1) := dk_172 (dk_at dksX5_isIn_1 11 rfl rfl)
abbrev cX5_isCommand : ByteArray := prog_11_method_80_code
def yX5_isCommand : MethodName := ⟨RX5, "isCommand", "()Z"⟩
def dkwX5_isCommand_6 : List UInt8 := [89, 180, 0, 205, 4, 96, 181, 0, 205, 4, 172]
abbrev dktX5_isCommand_6 : List UInt8 := dkwX5_isCommand_6 ++ []
def dkwX5_isCommand_5 : List UInt8 := [132, 3, 1, 167, 255, 213, 42, 182, 0, 227, 42, 16, 59, 16, 59, 182, 0, 208, 154, 0, 5, 3, 172, 42]
abbrev dktX5_isCommand_5 : List UInt8 := dkwX5_isCommand_5 ++ dktX5_isCommand_6
def dkwX5_isCommand_4 : List UInt8 := [42, 182, 0, 227, 42, 180, 0, 205, 21, 4, 159, 0, 11, 42, 29, 182, 0, 230, 154, 0, 5, 3, 172]
abbrev dktX5_isCommand_4 : List UInt8 := dkwX5_isCommand_4 ++ dktX5_isCommand_5
def dkwX5_isCommand_3 : List UInt8 := [181, 0, 205, 3, 172, 3, 62, 29, 42, 180, 0, 221, 184, 0, 224, 162, 0, 38, 42, 180, 0, 205, 54, 4]
abbrev dktX5_isCommand_3 : List UInt8 := dkwX5_isCommand_3 ++ dktX5_isCommand_4
def dkwX5_isCommand_2 : List UInt8 := [28, 42, 180, 0, 205, 27, 100, 184, 0, 218, 181, 0, 221, 42, 180, 0, 221, 154, 0, 10, 42, 27]
abbrev dktX5_isCommand_2 : List UInt8 := dkwX5_isCommand_2 ++ dktX5_isCommand_3
def dkwX5_isCommand_1 : List UInt8 := [180, 0, 19, 42, 180, 0, 205, 46, 128, 61, 42, 89, 180, 0, 205, 4, 96, 181, 0, 205, 167, 255, 220, 42]
abbrev dktX5_isCommand_1 : List UInt8 := dkwX5_isCommand_1 ++ dktX5_isCommand_2
def dkwX5_isCommand_0 : List UInt8 := [42, 180, 0, 205, 60, 3, 61, 42, 16, 97, 16, 122, 182, 0, 208, 153, 0, 31, 28, 16, 8, 120, 42]
abbrev dktX5_isCommand_0 : List UInt8 := dkwX5_isCommand_0 ++ dktX5_isCommand_1
theorem dksX5_isCommand_0 : cX5_isCommand.data.toList.drop 0 = dktX5_isCommand_0 := by decide +kernel
theorem dksX5_isCommand_1 : cX5_isCommand.data.toList.drop 23 = dktX5_isCommand_1 := dk_seg dksX5_isCommand_0 23 rfl rfl
theorem dksX5_isCommand_2 : cX5_isCommand.data.toList.drop 47 = dktX5_isCommand_2 := dk_seg dksX5_isCommand_1 24 rfl rfl
theorem dksX5_isCommand_3 : cX5_isCommand.data.toList.drop 69 = dktX5_isCommand_3 := dk_seg dksX5_isCommand_2 22 rfl rfl
theorem dksX5_isCommand_4 : cX5_isCommand.data.toList.drop 93 = dktX5_isCommand_4 := dk_seg dksX5_isCommand_3 24 rfl rfl
theorem dksX5_isCommand_5 : cX5_isCommand.data.toList.drop 116 = dktX5_isCommand_5 := dk_seg dksX5_isCommand_4 23 rfl rfl
theorem dksX5_isCommand_6 : cX5_isCommand.data.toList.drop 140 = dktX5_isCommand_6 := dk_seg dksX5_isCommand_5 24 rfl rfl
theorem dX5_isCommand_0 : decode cX5_isCommand 0 = .ok (.aload_n 0, 1) := dk_42 (dk_at dksX5_isCommand_0 0 rfl rfl)
theorem dX5_isCommand_1 : decode cX5_isCommand 1 = .ok (.getfield 205, 3) := dk_180 0 205 (dk_at dksX5_isCommand_0 1 rfl rfl)
theorem dX5_isCommand_4 : decode cX5_isCommand 4 = .ok (.istore_n 1, 1) := dk_60 (dk_at dksX5_isCommand_0 4 rfl rfl)
theorem dX5_isCommand_5 : decode cX5_isCommand 5 = .ok (.iconst 0, 1) := dk_3 (dk_at dksX5_isCommand_0 5 rfl rfl)
theorem dX5_isCommand_6 : decode cX5_isCommand 6 = .ok (.istore_n 2, 1) := dk_61 (dk_at dksX5_isCommand_0 6 rfl rfl)
theorem dX5_isCommand_7 : decode cX5_isCommand 7 = .ok (.aload_n 0, 1) := dk_42 (dk_at dksX5_isCommand_0 7 rfl rfl)
theorem dX5_isCommand_8 : decode cX5_isCommand 8 = .ok (.bipush 97, 2) := dk_16 97 (dk_at dksX5_isCommand_0 8 rfl rfl)
theorem dX5_isCommand_10 : decode cX5_isCommand 10 = .ok (.bipush 122, 2) := dk_16 122 (dk_at dksX5_isCommand_0 10 rfl rfl)
theorem dX5_isCommand_12 : decode cX5_isCommand 12 = .ok (.invokevirtual 208, 3) := dk_182 0 208 (dk_at dksX5_isCommand_0 12 rfl rfl)
theorem dX5_isCommand_15 : decode cX5_isCommand 15 = .ok (.ifCond .eq 31, 3) := dk_153 0 31 (dk_at dksX5_isCommand_0 15 rfl rfl)
theorem dX5_isCommand_18 : decode cX5_isCommand 18 = .ok (.iload_n 2, 1) := dk_28 (dk_at dksX5_isCommand_0 18 rfl rfl)
theorem dX5_isCommand_19 : decode cX5_isCommand 19 = .ok (.bipush 8, 2) := dk_16 8 (dk_at dksX5_isCommand_0 19 rfl rfl)
theorem dX5_isCommand_21 : decode cX5_isCommand 21 = .ok (.ishl, 1) := dk_120 (dk_at dksX5_isCommand_0 21 rfl rfl)
theorem dX5_isCommand_22 : decode cX5_isCommand 22 = .ok (.aload_n 0, 1) := dk_42 (dk_at dksX5_isCommand_0 22 rfl rfl)
theorem dX5_isCommand_23 : decode cX5_isCommand 23 = .ok (.getfield 19, 3) := dk_180 0 19 (dk_at dksX5_isCommand_1 0 rfl rfl)
theorem dX5_isCommand_26 : decode cX5_isCommand 26 = .ok (.aload_n 0, 1) := dk_42 (dk_at dksX5_isCommand_1 3 rfl rfl)
theorem dX5_isCommand_27 : decode cX5_isCommand 27 = .ok (.getfield 205, 3) := dk_180 0 205 (dk_at dksX5_isCommand_1 4 rfl rfl)
theorem dX5_isCommand_30 : decode cX5_isCommand 30 = .ok (.iaload, 1) := dk_46 (dk_at dksX5_isCommand_1 7 rfl rfl)
theorem dX5_isCommand_31 : decode cX5_isCommand 31 = .ok (.ior, 1) := dk_128 (dk_at dksX5_isCommand_1 8 rfl rfl)
theorem dX5_isCommand_32 : decode cX5_isCommand 32 = .ok (.istore_n 2, 1) := dk_61 (dk_at dksX5_isCommand_1 9 rfl rfl)
theorem dX5_isCommand_33 : decode cX5_isCommand 33 = .ok (.aload_n 0, 1) := dk_42 (dk_at dksX5_isCommand_1 10 rfl rfl)
theorem dX5_isCommand_34 : decode cX5_isCommand 34 = .ok (.dup, 1) := dk_89 (dk_at dksX5_isCommand_1 11 rfl rfl)
theorem dX5_isCommand_35 : decode cX5_isCommand 35 = .ok (.getfield 205, 3) := dk_180 0 205 (dk_at dksX5_isCommand_1 12 rfl rfl)
theorem dX5_isCommand_38 : decode cX5_isCommand 38 = .ok (.iconst 1, 1) := dk_4 (dk_at dksX5_isCommand_1 15 rfl rfl)
theorem dX5_isCommand_39 : decode cX5_isCommand 39 = .ok (.iadd, 1) := dk_96 (dk_at dksX5_isCommand_1 16 rfl rfl)
theorem dX5_isCommand_40 : decode cX5_isCommand 40 = .ok (.putfield 205, 3) := dk_181 0 205 (dk_at dksX5_isCommand_1 17 rfl rfl)
theorem dX5_isCommand_43 : decode cX5_isCommand 43 = .ok (.goto (-36), 3) := dk_167 255 220 (dk_at dksX5_isCommand_1 20 rfl rfl)
theorem dX5_isCommand_46 : decode cX5_isCommand 46 = .ok (.aload_n 0, 1) := dk_42 (dk_at dksX5_isCommand_1 23 rfl rfl)
theorem dX5_isCommand_47 : decode cX5_isCommand 47 = .ok (.iload_n 2, 1) := dk_28 (dk_at dksX5_isCommand_2 0 rfl rfl)
theorem dX5_isCommand_48 : decode cX5_isCommand 48 = .ok (.aload_n 0, 1) := dk_42 (dk_at dksX5_isCommand_2 1 rfl rfl)
theorem dX5_isCommand_49 : decode cX5_isCommand 49 = .ok (.getfield 205, 3) := dk_180 0 205 (dk_at dksX5_isCommand_2 2 rfl rfl)
theorem dX5_isCommand_52 : decode cX5_isCommand 52 = .ok (.iload_n 1, 1) := dk_27 (dk_at dksX5_isCommand_2 5 rfl rfl)
theorem dX5_isCommand_53 : decode cX5_isCommand 53 = .ok (.isub, 1) := dk_100 (dk_at dksX5_isCommand_2 6 rfl rfl)
theorem dX5_isCommand_54 : decode cX5_isCommand 54 = .ok (.invokestatic 218, 3) := dk_184 0 218 (dk_at dksX5_isCommand_2 7 rfl rfl)
theorem dX5_isCommand_57 : decode cX5_isCommand 57 = .ok (.putfield 221, 3) := dk_181 0 221 (dk_at dksX5_isCommand_2 10 rfl rfl)
theorem dX5_isCommand_60 : decode cX5_isCommand 60 = .ok (.aload_n 0, 1) := dk_42 (dk_at dksX5_isCommand_2 13 rfl rfl)
theorem dX5_isCommand_61 : decode cX5_isCommand 61 = .ok (.getfield 221, 3) := dk_180 0 221 (dk_at dksX5_isCommand_2 14 rfl rfl)
theorem dX5_isCommand_64 : decode cX5_isCommand 64 = .ok (.ifCond .ne 10, 3) := dk_154 0 10 (dk_at dksX5_isCommand_2 17 rfl rfl)
theorem dX5_isCommand_67 : decode cX5_isCommand 67 = .ok (.aload_n 0, 1) := dk_42 (dk_at dksX5_isCommand_2 20 rfl rfl)
theorem dX5_isCommand_68 : decode cX5_isCommand 68 = .ok (.iload_n 1, 1) := dk_27 (dk_at dksX5_isCommand_2 21 rfl rfl)
theorem dX5_isCommand_69 : decode cX5_isCommand 69 = .ok (.putfield 205, 3) := dk_181 0 205 (dk_at dksX5_isCommand_3 0 rfl rfl)
theorem dX5_isCommand_72 : decode cX5_isCommand 72 = .ok (.iconst 0, 1) := dk_3 (dk_at dksX5_isCommand_3 3 rfl rfl)
theorem dX5_isCommand_73 : decode cX5_isCommand 73 = .ok (.ireturn, 1) := dk_172 (dk_at dksX5_isCommand_3 4 rfl rfl)
theorem dX5_isCommand_74 : decode cX5_isCommand 74 = .ok (.iconst 0, 1) := dk_3 (dk_at dksX5_isCommand_3 5 rfl rfl)
theorem dX5_isCommand_75 : decode cX5_isCommand 75 = .ok (.istore_n 3, 1) := dk_62 (dk_at dksX5_isCommand_3 6 rfl rfl)
theorem dX5_isCommand_76 : decode cX5_isCommand 76 = .ok (.iload_n 3, 1) := dk_29 (dk_at dksX5_isCommand_3 7 rfl rfl)
theorem dX5_isCommand_77 : decode cX5_isCommand 77 = .ok (.aload_n 0, 1) := dk_42 (dk_at dksX5_isCommand_3 8 rfl rfl)
theorem dX5_isCommand_78 : decode cX5_isCommand 78 = .ok (.getfield 221, 3) := dk_180 0 221 (dk_at dksX5_isCommand_3 9 rfl rfl)
theorem dX5_isCommand_81 : decode cX5_isCommand 81 = .ok (.invokestatic 224, 3) := dk_184 0 224 (dk_at dksX5_isCommand_3 12 rfl rfl)
theorem dX5_isCommand_84 : decode cX5_isCommand 84 = .ok (.if_icmp .ge 38, 3) := dk_162 0 38 (dk_at dksX5_isCommand_3 15 rfl rfl)
theorem dX5_isCommand_87 : decode cX5_isCommand 87 = .ok (.aload_n 0, 1) := dk_42 (dk_at dksX5_isCommand_3 18 rfl rfl)
theorem dX5_isCommand_88 : decode cX5_isCommand 88 = .ok (.getfield 205, 3) := dk_180 0 205 (dk_at dksX5_isCommand_3 19 rfl rfl)
theorem dX5_isCommand_91 : decode cX5_isCommand 91 = .ok (.istore 4, 2) := dk_54 4 (dk_at dksX5_isCommand_3 22 rfl rfl)
theorem dX5_isCommand_93 : decode cX5_isCommand 93 = .ok (.aload_n 0, 1) := dk_42 (dk_at dksX5_isCommand_4 0 rfl rfl)
theorem dX5_isCommand_94 : decode cX5_isCommand 94 = .ok (.invokevirtual 227, 3) := dk_182 0 227 (dk_at dksX5_isCommand_4 1 rfl rfl)
theorem dX5_isCommand_97 : decode cX5_isCommand 97 = .ok (.aload_n 0, 1) := dk_42 (dk_at dksX5_isCommand_4 4 rfl rfl)
theorem dX5_isCommand_98 : decode cX5_isCommand 98 = .ok (.getfield 205, 3) := dk_180 0 205 (dk_at dksX5_isCommand_4 5 rfl rfl)
theorem dX5_isCommand_101 : decode cX5_isCommand 101 = .ok (.iload 4, 2) := dk_21 4 (dk_at dksX5_isCommand_4 8 rfl rfl)
theorem dX5_isCommand_103 : decode cX5_isCommand 103 = .ok (.if_icmp .eq 11, 3) := dk_159 0 11 (dk_at dksX5_isCommand_4 10 rfl rfl)
theorem dX5_isCommand_106 : decode cX5_isCommand 106 = .ok (.aload_n 0, 1) := dk_42 (dk_at dksX5_isCommand_4 13 rfl rfl)
theorem dX5_isCommand_107 : decode cX5_isCommand 107 = .ok (.iload_n 3, 1) := dk_29 (dk_at dksX5_isCommand_4 14 rfl rfl)
theorem dX5_isCommand_108 : decode cX5_isCommand 108 = .ok (.invokevirtual 230, 3) := dk_182 0 230 (dk_at dksX5_isCommand_4 15 rfl rfl)
theorem dX5_isCommand_111 : decode cX5_isCommand 111 = .ok (.ifCond .ne 5, 3) := dk_154 0 5 (dk_at dksX5_isCommand_4 18 rfl rfl)
theorem dX5_isCommand_114 : decode cX5_isCommand 114 = .ok (.iconst 0, 1) := dk_3 (dk_at dksX5_isCommand_4 21 rfl rfl)
theorem dX5_isCommand_115 : decode cX5_isCommand 115 = .ok (.ireturn, 1) := dk_172 (dk_at dksX5_isCommand_4 22 rfl rfl)
theorem dX5_isCommand_116 : decode cX5_isCommand 116 = .ok (.iinc 3 1, 3) := dk_132 3 1 (dk_at dksX5_isCommand_5 0 rfl rfl)
theorem dX5_isCommand_119 : decode cX5_isCommand 119 = .ok (.goto (-43), 3) := dk_167 255 213 (dk_at dksX5_isCommand_5 3 rfl rfl)
theorem dX5_isCommand_122 : decode cX5_isCommand 122 = .ok (.aload_n 0, 1) := dk_42 (dk_at dksX5_isCommand_5 6 rfl rfl)
theorem dX5_isCommand_123 : decode cX5_isCommand 123 = .ok (.invokevirtual 227, 3) := dk_182 0 227 (dk_at dksX5_isCommand_5 7 rfl rfl)
theorem dX5_isCommand_126 : decode cX5_isCommand 126 = .ok (.aload_n 0, 1) := dk_42 (dk_at dksX5_isCommand_5 10 rfl rfl)
theorem dX5_isCommand_127 : decode cX5_isCommand 127 = .ok (.bipush 59, 2) := dk_16 59 (dk_at dksX5_isCommand_5 11 rfl rfl)
theorem dX5_isCommand_129 : decode cX5_isCommand 129 = .ok (.bipush 59, 2) := dk_16 59 (dk_at dksX5_isCommand_5 13 rfl rfl)
theorem dX5_isCommand_131 : decode cX5_isCommand 131 = .ok (.invokevirtual 208, 3) := dk_182 0 208 (dk_at dksX5_isCommand_5 15 rfl rfl)
theorem dX5_isCommand_134 : decode cX5_isCommand 134 = .ok (.ifCond .ne 5, 3) := dk_154 0 5 (dk_at dksX5_isCommand_5 18 rfl rfl)
theorem dX5_isCommand_137 : decode cX5_isCommand 137 = .ok (.iconst 0, 1) := dk_3 (dk_at dksX5_isCommand_5 21 rfl rfl)
theorem dX5_isCommand_138 : decode cX5_isCommand 138 = .ok (.ireturn, 1) := dk_172 (dk_at dksX5_isCommand_5 22 rfl rfl)
theorem dX5_isCommand_139 : decode cX5_isCommand 139 = .ok (.aload_n 0, 1) := dk_42 (dk_at dksX5_isCommand_5 23 rfl rfl)
theorem dX5_isCommand_140 : decode cX5_isCommand 140 = .ok (.dup, 1) := dk_89 (dk_at dksX5_isCommand_6 0 rfl rfl)
theorem dX5_isCommand_141 : decode cX5_isCommand 141 = .ok (.getfield 205, 3) := dk_180 0 205 (dk_at dksX5_isCommand_6 1 rfl rfl)
theorem dX5_isCommand_144 : decode cX5_isCommand 144 = .ok (.iconst 1, 1) := dk_4 (dk_at dksX5_isCommand_6 4 rfl rfl)
theorem dX5_isCommand_145 : decode cX5_isCommand 145 = .ok (.iadd, 1) := dk_96 (dk_at dksX5_isCommand_6 5 rfl rfl)
theorem dX5_isCommand_146 : decode cX5_isCommand 146 = .ok (.putfield 205, 3) := dk_181 0 205 (dk_at dksX5_isCommand_6 6 rfl rfl)
theorem dX5_isCommand_149 : decode cX5_isCommand 149 = .ok (.iconst 1, 1) := dk_4 (dk_at dksX5_isCommand_6 9 rfl rfl)
theorem dX5_isCommand_150 : decode cX5_isCommand 150 = .ok (.ireturn, 1) := dk_172 (dk_at dksX5_isCommand_6 10 rfl rfl)
abbrev cX5_wordOf : ByteArray := prog_11_method_77_code
def yX5_wordOf : MethodName := ⟨RX5, "wordOf", "(II)I"⟩
def dkwX5_wordOf_3 : List UInt8 := [160, 0, 8, 16, 6, 167, 0, 15, 26, 18, 217, 160, 0, 8, 16, 7, 167, 0, 4, 3, 172]
abbrev dktX5_wordOf_3 : List UInt8 := dkwX5_wordOf_3 ++ []
def dkwX5_wordOf_2 : List UInt8 := [18, 214, 160, 0, 7, 6, 167, 0, 36, 26, 18, 215, 160, 0, 7, 8, 167, 0, 26, 26, 18, 216]
abbrev dktX5_wordOf_2 : List UInt8 := dkwX5_wordOf_2 ++ dktX5_wordOf_3
def dkwX5_wordOf_1 : List UInt8 := [167, 0, 4, 3, 172, 27, 7, 159, 0, 5, 3, 172, 26, 18, 213, 160, 0, 7, 4, 167, 0, 46, 26]
abbrev dktX5_wordOf_1 : List UInt8 := dkwX5_wordOf_1 ++ dktX5_wordOf_2
def dkwX5_wordOf_0 : List UInt8 := [27, 6, 160, 0, 25, 26, 18, 211, 160, 0, 7, 5, 167, 0, 14, 26, 18, 212, 160, 0, 7, 7]
abbrev dktX5_wordOf_0 : List UInt8 := dkwX5_wordOf_0 ++ dktX5_wordOf_1
theorem dksX5_wordOf_0 : cX5_wordOf.data.toList.drop 0 = dktX5_wordOf_0 := by decide +kernel
theorem dksX5_wordOf_1 : cX5_wordOf.data.toList.drop 22 = dktX5_wordOf_1 := dk_seg dksX5_wordOf_0 22 rfl rfl
theorem dksX5_wordOf_2 : cX5_wordOf.data.toList.drop 45 = dktX5_wordOf_2 := dk_seg dksX5_wordOf_1 23 rfl rfl
theorem dksX5_wordOf_3 : cX5_wordOf.data.toList.drop 67 = dktX5_wordOf_3 := dk_seg dksX5_wordOf_2 22 rfl rfl
theorem dX5_wordOf_0 : decode cX5_wordOf 0 = .ok (.iload_n 1, 1) := dk_27 (dk_at dksX5_wordOf_0 0 rfl rfl)
theorem dX5_wordOf_1 : decode cX5_wordOf 1 = .ok (.iconst 3, 1) := dk_6 (dk_at dksX5_wordOf_0 1 rfl rfl)
theorem dX5_wordOf_2 : decode cX5_wordOf 2 = .ok (.if_icmp .ne 25, 3) := dk_160 0 25 (dk_at dksX5_wordOf_0 2 rfl rfl)
theorem dX5_wordOf_5 : decode cX5_wordOf 5 = .ok (.iload_n 0, 1) := dk_26 (dk_at dksX5_wordOf_0 5 rfl rfl)
theorem dX5_wordOf_6 : decode cX5_wordOf 6 = .ok (.ldc 211, 2) := dk_18 211 (dk_at dksX5_wordOf_0 6 rfl rfl)
theorem dX5_wordOf_8 : decode cX5_wordOf 8 = .ok (.if_icmp .ne 7, 3) := dk_160 0 7 (dk_at dksX5_wordOf_0 8 rfl rfl)
theorem dX5_wordOf_11 : decode cX5_wordOf 11 = .ok (.iconst 2, 1) := dk_5 (dk_at dksX5_wordOf_0 11 rfl rfl)
theorem dX5_wordOf_12 : decode cX5_wordOf 12 = .ok (.goto 14, 3) := dk_167 0 14 (dk_at dksX5_wordOf_0 12 rfl rfl)
theorem dX5_wordOf_15 : decode cX5_wordOf 15 = .ok (.iload_n 0, 1) := dk_26 (dk_at dksX5_wordOf_0 15 rfl rfl)
theorem dX5_wordOf_16 : decode cX5_wordOf 16 = .ok (.ldc 212, 2) := dk_18 212 (dk_at dksX5_wordOf_0 16 rfl rfl)
theorem dX5_wordOf_18 : decode cX5_wordOf 18 = .ok (.if_icmp .ne 7, 3) := dk_160 0 7 (dk_at dksX5_wordOf_0 18 rfl rfl)
theorem dX5_wordOf_21 : decode cX5_wordOf 21 = .ok (.iconst 4, 1) := dk_7 (dk_at dksX5_wordOf_0 21 rfl rfl)
theorem dX5_wordOf_22 : decode cX5_wordOf 22 = .ok (.goto 4, 3) := dk_167 0 4 (dk_at dksX5_wordOf_1 0 rfl rfl)
theorem dX5_wordOf_25 : decode cX5_wordOf 25 = .ok (.iconst 0, 1) := dk_3 (dk_at dksX5_wordOf_1 3 rfl rfl)
theorem dX5_wordOf_26 : decode cX5_wordOf 26 = .ok (.ireturn, 1) := dk_172 (dk_at dksX5_wordOf_1 4 rfl rfl)
theorem dX5_wordOf_27 : decode cX5_wordOf 27 = .ok (.iload_n 1, 1) := dk_27 (dk_at dksX5_wordOf_1 5 rfl rfl)
theorem dX5_wordOf_28 : decode cX5_wordOf 28 = .ok (.iconst 4, 1) := dk_7 (dk_at dksX5_wordOf_1 6 rfl rfl)
theorem dX5_wordOf_29 : decode cX5_wordOf 29 = .ok (.if_icmp .eq 5, 3) := dk_159 0 5 (dk_at dksX5_wordOf_1 7 rfl rfl)
theorem dX5_wordOf_32 : decode cX5_wordOf 32 = .ok (.iconst 0, 1) := dk_3 (dk_at dksX5_wordOf_1 10 rfl rfl)
theorem dX5_wordOf_33 : decode cX5_wordOf 33 = .ok (.ireturn, 1) := dk_172 (dk_at dksX5_wordOf_1 11 rfl rfl)
theorem dX5_wordOf_34 : decode cX5_wordOf 34 = .ok (.iload_n 0, 1) := dk_26 (dk_at dksX5_wordOf_1 12 rfl rfl)
theorem dX5_wordOf_35 : decode cX5_wordOf 35 = .ok (.ldc 213, 2) := dk_18 213 (dk_at dksX5_wordOf_1 13 rfl rfl)
theorem dX5_wordOf_37 : decode cX5_wordOf 37 = .ok (.if_icmp .ne 7, 3) := dk_160 0 7 (dk_at dksX5_wordOf_1 15 rfl rfl)
theorem dX5_wordOf_40 : decode cX5_wordOf 40 = .ok (.iconst 1, 1) := dk_4 (dk_at dksX5_wordOf_1 18 rfl rfl)
theorem dX5_wordOf_41 : decode cX5_wordOf 41 = .ok (.goto 46, 3) := dk_167 0 46 (dk_at dksX5_wordOf_1 19 rfl rfl)
theorem dX5_wordOf_44 : decode cX5_wordOf 44 = .ok (.iload_n 0, 1) := dk_26 (dk_at dksX5_wordOf_1 22 rfl rfl)
theorem dX5_wordOf_45 : decode cX5_wordOf 45 = .ok (.ldc 214, 2) := dk_18 214 (dk_at dksX5_wordOf_2 0 rfl rfl)
theorem dX5_wordOf_47 : decode cX5_wordOf 47 = .ok (.if_icmp .ne 7, 3) := dk_160 0 7 (dk_at dksX5_wordOf_2 2 rfl rfl)
theorem dX5_wordOf_50 : decode cX5_wordOf 50 = .ok (.iconst 3, 1) := dk_6 (dk_at dksX5_wordOf_2 5 rfl rfl)
theorem dX5_wordOf_51 : decode cX5_wordOf 51 = .ok (.goto 36, 3) := dk_167 0 36 (dk_at dksX5_wordOf_2 6 rfl rfl)
theorem dX5_wordOf_54 : decode cX5_wordOf 54 = .ok (.iload_n 0, 1) := dk_26 (dk_at dksX5_wordOf_2 9 rfl rfl)
theorem dX5_wordOf_55 : decode cX5_wordOf 55 = .ok (.ldc 215, 2) := dk_18 215 (dk_at dksX5_wordOf_2 10 rfl rfl)
theorem dX5_wordOf_57 : decode cX5_wordOf 57 = .ok (.if_icmp .ne 7, 3) := dk_160 0 7 (dk_at dksX5_wordOf_2 12 rfl rfl)
theorem dX5_wordOf_60 : decode cX5_wordOf 60 = .ok (.iconst 5, 1) := dk_8 (dk_at dksX5_wordOf_2 15 rfl rfl)
theorem dX5_wordOf_61 : decode cX5_wordOf 61 = .ok (.goto 26, 3) := dk_167 0 26 (dk_at dksX5_wordOf_2 16 rfl rfl)
theorem dX5_wordOf_64 : decode cX5_wordOf 64 = .ok (.iload_n 0, 1) := dk_26 (dk_at dksX5_wordOf_2 19 rfl rfl)
theorem dX5_wordOf_65 : decode cX5_wordOf 65 = .ok (.ldc 216, 2) := dk_18 216 (dk_at dksX5_wordOf_2 20 rfl rfl)
theorem dX5_wordOf_67 : decode cX5_wordOf 67 = .ok (.if_icmp .ne 8, 3) := dk_160 0 8 (dk_at dksX5_wordOf_3 0 rfl rfl)
theorem dX5_wordOf_70 : decode cX5_wordOf 70 = .ok (.bipush 6, 2) := dk_16 6 (dk_at dksX5_wordOf_3 3 rfl rfl)
theorem dX5_wordOf_72 : decode cX5_wordOf 72 = .ok (.goto 15, 3) := dk_167 0 15 (dk_at dksX5_wordOf_3 5 rfl rfl)
theorem dX5_wordOf_75 : decode cX5_wordOf 75 = .ok (.iload_n 0, 1) := dk_26 (dk_at dksX5_wordOf_3 8 rfl rfl)
theorem dX5_wordOf_76 : decode cX5_wordOf 76 = .ok (.ldc 217, 2) := dk_18 217 (dk_at dksX5_wordOf_3 9 rfl rfl)
theorem dX5_wordOf_78 : decode cX5_wordOf 78 = .ok (.if_icmp .ne 8, 3) := dk_160 0 8 (dk_at dksX5_wordOf_3 11 rfl rfl)
theorem dX5_wordOf_81 : decode cX5_wordOf 81 = .ok (.bipush 7, 2) := dk_16 7 (dk_at dksX5_wordOf_3 14 rfl rfl)
theorem dX5_wordOf_83 : decode cX5_wordOf 83 = .ok (.goto 4, 3) := dk_167 0 4 (dk_at dksX5_wordOf_3 16 rfl rfl)
theorem dX5_wordOf_86 : decode cX5_wordOf 86 = .ok (.iconst 0, 1) := dk_3 (dk_at dksX5_wordOf_3 19 rfl rfl)
theorem dX5_wordOf_87 : decode cX5_wordOf 87 = .ok (.ireturn, 1) := dk_172 (dk_at dksX5_wordOf_3 20 rfl rfl)
abbrev cX5_numbersOf : ByteArray := prog_11_method_78_code
def yX5_numbersOf : MethodName := ⟨RX5, "numbersOf", "(I)I"⟩
def dkwX5_numbersOf_1 : List UInt8 := [4, 172]
abbrev dktX5_numbersOf_1 : List UInt8 := dkwX5_numbersOf_1 ++ []
def dkwX5_numbersOf_0 : List UInt8 := [26, 6, 162, 0, 7, 6, 167, 0, 19, 26, 8, 159, 0, 9, 26, 16, 6, 160, 0, 7, 5, 167, 0, 4]
abbrev dktX5_numbersOf_0 : List UInt8 := dkwX5_numbersOf_0 ++ dktX5_numbersOf_1
theorem dksX5_numbersOf_0 : cX5_numbersOf.data.toList.drop 0 = dktX5_numbersOf_0 := by decide +kernel
theorem dksX5_numbersOf_1 : cX5_numbersOf.data.toList.drop 24 = dktX5_numbersOf_1 := dk_seg dksX5_numbersOf_0 24 rfl rfl
theorem dX5_numbersOf_0 : decode cX5_numbersOf 0 = .ok (.iload_n 0, 1) := dk_26 (dk_at dksX5_numbersOf_0 0 rfl rfl)
theorem dX5_numbersOf_1 : decode cX5_numbersOf 1 = .ok (.iconst 3, 1) := dk_6 (dk_at dksX5_numbersOf_0 1 rfl rfl)
theorem dX5_numbersOf_2 : decode cX5_numbersOf 2 = .ok (.if_icmp .ge 7, 3) := dk_162 0 7 (dk_at dksX5_numbersOf_0 2 rfl rfl)
theorem dX5_numbersOf_5 : decode cX5_numbersOf 5 = .ok (.iconst 3, 1) := dk_6 (dk_at dksX5_numbersOf_0 5 rfl rfl)
theorem dX5_numbersOf_6 : decode cX5_numbersOf 6 = .ok (.goto 19, 3) := dk_167 0 19 (dk_at dksX5_numbersOf_0 6 rfl rfl)
theorem dX5_numbersOf_9 : decode cX5_numbersOf 9 = .ok (.iload_n 0, 1) := dk_26 (dk_at dksX5_numbersOf_0 9 rfl rfl)
theorem dX5_numbersOf_10 : decode cX5_numbersOf 10 = .ok (.iconst 5, 1) := dk_8 (dk_at dksX5_numbersOf_0 10 rfl rfl)
theorem dX5_numbersOf_11 : decode cX5_numbersOf 11 = .ok (.if_icmp .eq 9, 3) := dk_159 0 9 (dk_at dksX5_numbersOf_0 11 rfl rfl)
theorem dX5_numbersOf_14 : decode cX5_numbersOf 14 = .ok (.iload_n 0, 1) := dk_26 (dk_at dksX5_numbersOf_0 14 rfl rfl)
theorem dX5_numbersOf_15 : decode cX5_numbersOf 15 = .ok (.bipush 6, 2) := dk_16 6 (dk_at dksX5_numbersOf_0 15 rfl rfl)
theorem dX5_numbersOf_17 : decode cX5_numbersOf 17 = .ok (.if_icmp .ne 7, 3) := dk_160 0 7 (dk_at dksX5_numbersOf_0 17 rfl rfl)
theorem dX5_numbersOf_20 : decode cX5_numbersOf 20 = .ok (.iconst 2, 1) := dk_5 (dk_at dksX5_numbersOf_0 20 rfl rfl)
theorem dX5_numbersOf_21 : decode cX5_numbersOf 21 = .ok (.goto 4, 3) := dk_167 0 4 (dk_at dksX5_numbersOf_0 21 rfl rfl)
theorem dX5_numbersOf_24 : decode cX5_numbersOf 24 = .ok (.iconst 1, 1) := dk_4 (dk_at dksX5_numbersOf_1 0 rfl rfl)
theorem dX5_numbersOf_25 : decode cX5_numbersOf 25 = .ok (.ireturn, 1) := dk_172 (dk_at dksX5_numbersOf_1 1 rfl rfl)
abbrev cX5_isNumber : ByteArray := prog_11_method_79_code
def yX5_isNumber : MethodName := ⟨RX5, "isNumber", "(I)Z"⟩
def dkwX5_isNumber_3 : List UInt8 := [164, 0, 7, 4, 167, 0, 4, 3, 172]
abbrev dktX5_isNumber_3 : List UInt8 := dkwX5_isNumber_3 ++ []
def dkwX5_isNumber_2 : List UInt8 := [180, 0, 205, 4, 96, 181, 0, 205, 167, 255, 207, 42, 180, 0, 31, 27, 29, 79, 42, 180, 0, 205, 28]
abbrev dktX5_isNumber_2 : List UInt8 := dkwX5_isNumber_2 ++ dktX5_isNumber_3
def dkwX5_isNumber_1 : List UInt8 := [7, 162, 0, 34, 16, 10, 29, 104, 42, 180, 0, 19, 42, 180, 0, 205, 46, 96, 16, 48, 100, 62, 42, 89]
abbrev dktX5_isNumber_1 : List UInt8 := dkwX5_isNumber_1 ++ dktX5_isNumber_2
def dkwX5_isNumber_0 : List UInt8 := [42, 180, 0, 205, 61, 3, 62, 42, 16, 48, 16, 57, 182, 0, 208, 153, 0, 44, 42, 180, 0, 205, 28, 100]
abbrev dktX5_isNumber_0 : List UInt8 := dkwX5_isNumber_0 ++ dktX5_isNumber_1
theorem dksX5_isNumber_0 : cX5_isNumber.data.toList.drop 0 = dktX5_isNumber_0 := by decide +kernel
theorem dksX5_isNumber_1 : cX5_isNumber.data.toList.drop 24 = dktX5_isNumber_1 := dk_seg dksX5_isNumber_0 24 rfl rfl
theorem dksX5_isNumber_2 : cX5_isNumber.data.toList.drop 48 = dktX5_isNumber_2 := dk_seg dksX5_isNumber_1 24 rfl rfl
theorem dksX5_isNumber_3 : cX5_isNumber.data.toList.drop 71 = dktX5_isNumber_3 := dk_seg dksX5_isNumber_2 23 rfl rfl
theorem dX5_isNumber_0 : decode cX5_isNumber 0 = .ok (.aload_n 0, 1) := dk_42 (dk_at dksX5_isNumber_0 0 rfl rfl)
theorem dX5_isNumber_1 : decode cX5_isNumber 1 = .ok (.getfield 205, 3) := dk_180 0 205 (dk_at dksX5_isNumber_0 1 rfl rfl)
theorem dX5_isNumber_4 : decode cX5_isNumber 4 = .ok (.istore_n 2, 1) := dk_61 (dk_at dksX5_isNumber_0 4 rfl rfl)
theorem dX5_isNumber_5 : decode cX5_isNumber 5 = .ok (.iconst 0, 1) := dk_3 (dk_at dksX5_isNumber_0 5 rfl rfl)
theorem dX5_isNumber_6 : decode cX5_isNumber 6 = .ok (.istore_n 3, 1) := dk_62 (dk_at dksX5_isNumber_0 6 rfl rfl)
theorem dX5_isNumber_7 : decode cX5_isNumber 7 = .ok (.aload_n 0, 1) := dk_42 (dk_at dksX5_isNumber_0 7 rfl rfl)
theorem dX5_isNumber_8 : decode cX5_isNumber 8 = .ok (.bipush 48, 2) := dk_16 48 (dk_at dksX5_isNumber_0 8 rfl rfl)
theorem dX5_isNumber_10 : decode cX5_isNumber 10 = .ok (.bipush 57, 2) := dk_16 57 (dk_at dksX5_isNumber_0 10 rfl rfl)
theorem dX5_isNumber_12 : decode cX5_isNumber 12 = .ok (.invokevirtual 208, 3) := dk_182 0 208 (dk_at dksX5_isNumber_0 12 rfl rfl)
theorem dX5_isNumber_15 : decode cX5_isNumber 15 = .ok (.ifCond .eq 44, 3) := dk_153 0 44 (dk_at dksX5_isNumber_0 15 rfl rfl)
theorem dX5_isNumber_18 : decode cX5_isNumber 18 = .ok (.aload_n 0, 1) := dk_42 (dk_at dksX5_isNumber_0 18 rfl rfl)
theorem dX5_isNumber_19 : decode cX5_isNumber 19 = .ok (.getfield 205, 3) := dk_180 0 205 (dk_at dksX5_isNumber_0 19 rfl rfl)
theorem dX5_isNumber_22 : decode cX5_isNumber 22 = .ok (.iload_n 2, 1) := dk_28 (dk_at dksX5_isNumber_0 22 rfl rfl)
theorem dX5_isNumber_23 : decode cX5_isNumber 23 = .ok (.isub, 1) := dk_100 (dk_at dksX5_isNumber_0 23 rfl rfl)
theorem dX5_isNumber_24 : decode cX5_isNumber 24 = .ok (.iconst 4, 1) := dk_7 (dk_at dksX5_isNumber_1 0 rfl rfl)
theorem dX5_isNumber_25 : decode cX5_isNumber 25 = .ok (.if_icmp .ge 34, 3) := dk_162 0 34 (dk_at dksX5_isNumber_1 1 rfl rfl)
theorem dX5_isNumber_28 : decode cX5_isNumber 28 = .ok (.bipush 10, 2) := dk_16 10 (dk_at dksX5_isNumber_1 4 rfl rfl)
theorem dX5_isNumber_30 : decode cX5_isNumber 30 = .ok (.iload_n 3, 1) := dk_29 (dk_at dksX5_isNumber_1 6 rfl rfl)
theorem dX5_isNumber_31 : decode cX5_isNumber 31 = .ok (.imul, 1) := dk_104 (dk_at dksX5_isNumber_1 7 rfl rfl)
theorem dX5_isNumber_32 : decode cX5_isNumber 32 = .ok (.aload_n 0, 1) := dk_42 (dk_at dksX5_isNumber_1 8 rfl rfl)
theorem dX5_isNumber_33 : decode cX5_isNumber 33 = .ok (.getfield 19, 3) := dk_180 0 19 (dk_at dksX5_isNumber_1 9 rfl rfl)
theorem dX5_isNumber_36 : decode cX5_isNumber 36 = .ok (.aload_n 0, 1) := dk_42 (dk_at dksX5_isNumber_1 12 rfl rfl)
theorem dX5_isNumber_37 : decode cX5_isNumber 37 = .ok (.getfield 205, 3) := dk_180 0 205 (dk_at dksX5_isNumber_1 13 rfl rfl)
theorem dX5_isNumber_40 : decode cX5_isNumber 40 = .ok (.iaload, 1) := dk_46 (dk_at dksX5_isNumber_1 16 rfl rfl)
theorem dX5_isNumber_41 : decode cX5_isNumber 41 = .ok (.iadd, 1) := dk_96 (dk_at dksX5_isNumber_1 17 rfl rfl)
theorem dX5_isNumber_42 : decode cX5_isNumber 42 = .ok (.bipush 48, 2) := dk_16 48 (dk_at dksX5_isNumber_1 18 rfl rfl)
theorem dX5_isNumber_44 : decode cX5_isNumber 44 = .ok (.isub, 1) := dk_100 (dk_at dksX5_isNumber_1 20 rfl rfl)
theorem dX5_isNumber_45 : decode cX5_isNumber 45 = .ok (.istore_n 3, 1) := dk_62 (dk_at dksX5_isNumber_1 21 rfl rfl)
theorem dX5_isNumber_46 : decode cX5_isNumber 46 = .ok (.aload_n 0, 1) := dk_42 (dk_at dksX5_isNumber_1 22 rfl rfl)
theorem dX5_isNumber_47 : decode cX5_isNumber 47 = .ok (.dup, 1) := dk_89 (dk_at dksX5_isNumber_1 23 rfl rfl)
theorem dX5_isNumber_48 : decode cX5_isNumber 48 = .ok (.getfield 205, 3) := dk_180 0 205 (dk_at dksX5_isNumber_2 0 rfl rfl)
theorem dX5_isNumber_51 : decode cX5_isNumber 51 = .ok (.iconst 1, 1) := dk_4 (dk_at dksX5_isNumber_2 3 rfl rfl)
theorem dX5_isNumber_52 : decode cX5_isNumber 52 = .ok (.iadd, 1) := dk_96 (dk_at dksX5_isNumber_2 4 rfl rfl)
theorem dX5_isNumber_53 : decode cX5_isNumber 53 = .ok (.putfield 205, 3) := dk_181 0 205 (dk_at dksX5_isNumber_2 5 rfl rfl)
theorem dX5_isNumber_56 : decode cX5_isNumber 56 = .ok (.goto (-49), 3) := dk_167 255 207 (dk_at dksX5_isNumber_2 8 rfl rfl)
theorem dX5_isNumber_59 : decode cX5_isNumber 59 = .ok (.aload_n 0, 1) := dk_42 (dk_at dksX5_isNumber_2 11 rfl rfl)
theorem dX5_isNumber_60 : decode cX5_isNumber 60 = .ok (.getfield 31, 3) := dk_180 0 31 (dk_at dksX5_isNumber_2 12 rfl rfl)
theorem dX5_isNumber_63 : decode cX5_isNumber 63 = .ok (.iload_n 1, 1) := dk_27 (dk_at dksX5_isNumber_2 15 rfl rfl)
theorem dX5_isNumber_64 : decode cX5_isNumber 64 = .ok (.iload_n 3, 1) := dk_29 (dk_at dksX5_isNumber_2 16 rfl rfl)
theorem dX5_isNumber_65 : decode cX5_isNumber 65 = .ok (.iastore, 1) := dk_79 (dk_at dksX5_isNumber_2 17 rfl rfl)
theorem dX5_isNumber_66 : decode cX5_isNumber 66 = .ok (.aload_n 0, 1) := dk_42 (dk_at dksX5_isNumber_2 18 rfl rfl)
theorem dX5_isNumber_67 : decode cX5_isNumber 67 = .ok (.getfield 205, 3) := dk_180 0 205 (dk_at dksX5_isNumber_2 19 rfl rfl)
theorem dX5_isNumber_70 : decode cX5_isNumber 70 = .ok (.iload_n 2, 1) := dk_28 (dk_at dksX5_isNumber_2 22 rfl rfl)
theorem dX5_isNumber_71 : decode cX5_isNumber 71 = .ok (.if_icmp .le 7, 3) := dk_164 0 7 (dk_at dksX5_isNumber_3 0 rfl rfl)
theorem dX5_isNumber_74 : decode cX5_isNumber 74 = .ok (.iconst 1, 1) := dk_4 (dk_at dksX5_isNumber_3 3 rfl rfl)
theorem dX5_isNumber_75 : decode cX5_isNumber 75 = .ok (.goto 4, 3) := dk_167 0 4 (dk_at dksX5_isNumber_3 4 rfl rfl)
theorem dX5_isNumber_78 : decode cX5_isNumber 78 = .ok (.iconst 0, 1) := dk_3 (dk_at dksX5_isNumber_3 7 rfl rfl)
theorem dX5_isNumber_79 : decode cX5_isNumber 79 = .ok (.ireturn, 1) := dk_172 (dk_at dksX5_isNumber_3 8 rfl rfl)
abbrev cX5_does : ByteArray := prog_11_method_81_code
def yX5_does : MethodName := ⟨RX5, "does", "()I"⟩
def dkwX5_does_6 : List UInt8 := [180, 0, 31, 4, 46, 182, 0, 117, 172, 42, 42, 180, 0, 31, 3, 46, 182, 0, 124, 172]
abbrev dktX5_does_6 : List UInt8 := dkwX5_does_6 ++ []
def dkwX5_does_5 : List UInt8 := [180, 0, 31, 3, 46, 42, 180, 0, 31, 4, 46, 182, 0, 101, 172, 42, 42, 180, 0, 31, 3, 46, 42]
abbrev dktX5_does_5 : List UInt8 := dkwX5_does_5 ++ dktX5_does_6
def dkwX5_does_4 : List UInt8 := [180, 0, 31, 3, 46, 182, 0, 111, 172, 42, 42, 180, 0, 31, 3, 46, 182, 0, 114, 172, 42, 42]
abbrev dktX5_does_4 : List UInt8 := dkwX5_does_4 ++ dktX5_does_5
def dkwX5_does_3 : List UInt8 := [42, 180, 0, 31, 3, 46, 42, 180, 0, 31, 4, 46, 42, 180, 0, 31, 5, 46, 182, 0, 120, 172, 42, 42]
abbrev dktX5_does_3 : List UInt8 := dkwX5_does_3 ++ dktX5_does_4
def dkwX5_does_2 : List UInt8 := [42, 42, 180, 0, 31, 3, 46, 42, 180, 0, 31, 4, 46, 42, 180, 0, 31, 5, 46, 182, 0, 107, 172, 42]
abbrev dktX5_does_2 : List UInt8 := dkwX5_does_2 ++ dktX5_does_3
def dkwX5_does_1 : List UInt8 := [170, 0, 0, 0, 0, 0, 0, 142, 0, 0, 0, 1, 0, 0, 0, 6, 0, 0, 0, 40, 0, 0, 0, 63, 0, 0, 0, 86, 0, 0, 0, 97, 0, 0, 0, 108, 0, 0, 0, 125]
abbrev dktX5_does_1 : List UInt8 := dkwX5_does_1 ++ dktX5_does_2
def dkwX5_does_0 : List UInt8 := [42, 180, 0, 221]
abbrev dktX5_does_0 : List UInt8 := dkwX5_does_0 ++ dktX5_does_1
theorem dksX5_does_0 : cX5_does.data.toList.drop 0 = dktX5_does_0 := by decide +kernel
theorem dksX5_does_1 : cX5_does.data.toList.drop 4 = dktX5_does_1 := dk_seg dksX5_does_0 4 rfl rfl
theorem dksX5_does_2 : cX5_does.data.toList.drop 44 = dktX5_does_2 := dk_seg dksX5_does_1 40 rfl rfl
theorem dksX5_does_3 : cX5_does.data.toList.drop 68 = dktX5_does_3 := dk_seg dksX5_does_2 24 rfl rfl
theorem dksX5_does_4 : cX5_does.data.toList.drop 92 = dktX5_does_4 := dk_seg dksX5_does_3 24 rfl rfl
theorem dksX5_does_5 : cX5_does.data.toList.drop 114 = dktX5_does_5 := dk_seg dksX5_does_4 22 rfl rfl
theorem dksX5_does_6 : cX5_does.data.toList.drop 137 = dktX5_does_6 := dk_seg dksX5_does_5 23 rfl rfl
theorem dX5_does_0 : decode cX5_does 0 = .ok (.aload_n 0, 1) := dk_42 (dk_at dksX5_does_0 0 rfl rfl)
theorem dX5_does_1 : decode cX5_does 1 = .ok (.getfield 221, 3) := dk_180 0 221 (dk_at dksX5_does_0 1 rfl rfl)
theorem dX5_does_4 : decode cX5_does 4 = .ok (.tableswitch 142 1 6 #[40, 63, 86, 97, 108, 125], 40) := by decide +kernel
theorem dX5_does_44 : decode cX5_does 44 = .ok (.aload_n 0, 1) := dk_42 (dk_at dksX5_does_2 0 rfl rfl)
theorem dX5_does_45 : decode cX5_does 45 = .ok (.aload_n 0, 1) := dk_42 (dk_at dksX5_does_2 1 rfl rfl)
theorem dX5_does_46 : decode cX5_does 46 = .ok (.getfield 31, 3) := dk_180 0 31 (dk_at dksX5_does_2 2 rfl rfl)
theorem dX5_does_49 : decode cX5_does 49 = .ok (.iconst 0, 1) := dk_3 (dk_at dksX5_does_2 5 rfl rfl)
theorem dX5_does_50 : decode cX5_does 50 = .ok (.iaload, 1) := dk_46 (dk_at dksX5_does_2 6 rfl rfl)
theorem dX5_does_51 : decode cX5_does 51 = .ok (.aload_n 0, 1) := dk_42 (dk_at dksX5_does_2 7 rfl rfl)
theorem dX5_does_52 : decode cX5_does 52 = .ok (.getfield 31, 3) := dk_180 0 31 (dk_at dksX5_does_2 8 rfl rfl)
theorem dX5_does_55 : decode cX5_does 55 = .ok (.iconst 1, 1) := dk_4 (dk_at dksX5_does_2 11 rfl rfl)
theorem dX5_does_56 : decode cX5_does 56 = .ok (.iaload, 1) := dk_46 (dk_at dksX5_does_2 12 rfl rfl)
theorem dX5_does_57 : decode cX5_does 57 = .ok (.aload_n 0, 1) := dk_42 (dk_at dksX5_does_2 13 rfl rfl)
theorem dX5_does_58 : decode cX5_does 58 = .ok (.getfield 31, 3) := dk_180 0 31 (dk_at dksX5_does_2 14 rfl rfl)
theorem dX5_does_61 : decode cX5_does 61 = .ok (.iconst 2, 1) := dk_5 (dk_at dksX5_does_2 17 rfl rfl)
theorem dX5_does_62 : decode cX5_does 62 = .ok (.iaload, 1) := dk_46 (dk_at dksX5_does_2 18 rfl rfl)
theorem dX5_does_63 : decode cX5_does 63 = .ok (.invokevirtual 107, 3) := dk_182 0 107 (dk_at dksX5_does_2 19 rfl rfl)
theorem dX5_does_66 : decode cX5_does 66 = .ok (.ireturn, 1) := dk_172 (dk_at dksX5_does_2 22 rfl rfl)
theorem dX5_does_67 : decode cX5_does 67 = .ok (.aload_n 0, 1) := dk_42 (dk_at dksX5_does_2 23 rfl rfl)
theorem dX5_does_68 : decode cX5_does 68 = .ok (.aload_n 0, 1) := dk_42 (dk_at dksX5_does_3 0 rfl rfl)
theorem dX5_does_69 : decode cX5_does 69 = .ok (.getfield 31, 3) := dk_180 0 31 (dk_at dksX5_does_3 1 rfl rfl)
theorem dX5_does_72 : decode cX5_does 72 = .ok (.iconst 0, 1) := dk_3 (dk_at dksX5_does_3 4 rfl rfl)
theorem dX5_does_73 : decode cX5_does 73 = .ok (.iaload, 1) := dk_46 (dk_at dksX5_does_3 5 rfl rfl)
theorem dX5_does_74 : decode cX5_does 74 = .ok (.aload_n 0, 1) := dk_42 (dk_at dksX5_does_3 6 rfl rfl)
theorem dX5_does_75 : decode cX5_does 75 = .ok (.getfield 31, 3) := dk_180 0 31 (dk_at dksX5_does_3 7 rfl rfl)
theorem dX5_does_78 : decode cX5_does 78 = .ok (.iconst 1, 1) := dk_4 (dk_at dksX5_does_3 10 rfl rfl)
theorem dX5_does_79 : decode cX5_does 79 = .ok (.iaload, 1) := dk_46 (dk_at dksX5_does_3 11 rfl rfl)
theorem dX5_does_80 : decode cX5_does 80 = .ok (.aload_n 0, 1) := dk_42 (dk_at dksX5_does_3 12 rfl rfl)
theorem dX5_does_81 : decode cX5_does 81 = .ok (.getfield 31, 3) := dk_180 0 31 (dk_at dksX5_does_3 13 rfl rfl)
theorem dX5_does_84 : decode cX5_does 84 = .ok (.iconst 2, 1) := dk_5 (dk_at dksX5_does_3 16 rfl rfl)
theorem dX5_does_85 : decode cX5_does 85 = .ok (.iaload, 1) := dk_46 (dk_at dksX5_does_3 17 rfl rfl)
theorem dX5_does_86 : decode cX5_does 86 = .ok (.invokevirtual 120, 3) := dk_182 0 120 (dk_at dksX5_does_3 18 rfl rfl)
theorem dX5_does_89 : decode cX5_does 89 = .ok (.ireturn, 1) := dk_172 (dk_at dksX5_does_3 21 rfl rfl)
theorem dX5_does_90 : decode cX5_does 90 = .ok (.aload_n 0, 1) := dk_42 (dk_at dksX5_does_3 22 rfl rfl)
theorem dX5_does_91 : decode cX5_does 91 = .ok (.aload_n 0, 1) := dk_42 (dk_at dksX5_does_3 23 rfl rfl)
theorem dX5_does_92 : decode cX5_does 92 = .ok (.getfield 31, 3) := dk_180 0 31 (dk_at dksX5_does_4 0 rfl rfl)
theorem dX5_does_95 : decode cX5_does 95 = .ok (.iconst 0, 1) := dk_3 (dk_at dksX5_does_4 3 rfl rfl)
theorem dX5_does_96 : decode cX5_does 96 = .ok (.iaload, 1) := dk_46 (dk_at dksX5_does_4 4 rfl rfl)
theorem dX5_does_97 : decode cX5_does 97 = .ok (.invokevirtual 111, 3) := dk_182 0 111 (dk_at dksX5_does_4 5 rfl rfl)
theorem dX5_does_100 : decode cX5_does 100 = .ok (.ireturn, 1) := dk_172 (dk_at dksX5_does_4 8 rfl rfl)
theorem dX5_does_101 : decode cX5_does 101 = .ok (.aload_n 0, 1) := dk_42 (dk_at dksX5_does_4 9 rfl rfl)
theorem dX5_does_102 : decode cX5_does 102 = .ok (.aload_n 0, 1) := dk_42 (dk_at dksX5_does_4 10 rfl rfl)
theorem dX5_does_103 : decode cX5_does 103 = .ok (.getfield 31, 3) := dk_180 0 31 (dk_at dksX5_does_4 11 rfl rfl)
theorem dX5_does_106 : decode cX5_does 106 = .ok (.iconst 0, 1) := dk_3 (dk_at dksX5_does_4 14 rfl rfl)
theorem dX5_does_107 : decode cX5_does 107 = .ok (.iaload, 1) := dk_46 (dk_at dksX5_does_4 15 rfl rfl)
theorem dX5_does_108 : decode cX5_does 108 = .ok (.invokevirtual 114, 3) := dk_182 0 114 (dk_at dksX5_does_4 16 rfl rfl)
theorem dX5_does_111 : decode cX5_does 111 = .ok (.ireturn, 1) := dk_172 (dk_at dksX5_does_4 19 rfl rfl)
theorem dX5_does_112 : decode cX5_does 112 = .ok (.aload_n 0, 1) := dk_42 (dk_at dksX5_does_4 20 rfl rfl)
theorem dX5_does_113 : decode cX5_does 113 = .ok (.aload_n 0, 1) := dk_42 (dk_at dksX5_does_4 21 rfl rfl)
theorem dX5_does_114 : decode cX5_does 114 = .ok (.getfield 31, 3) := dk_180 0 31 (dk_at dksX5_does_5 0 rfl rfl)
theorem dX5_does_117 : decode cX5_does 117 = .ok (.iconst 0, 1) := dk_3 (dk_at dksX5_does_5 3 rfl rfl)
theorem dX5_does_118 : decode cX5_does 118 = .ok (.iaload, 1) := dk_46 (dk_at dksX5_does_5 4 rfl rfl)
theorem dX5_does_119 : decode cX5_does 119 = .ok (.aload_n 0, 1) := dk_42 (dk_at dksX5_does_5 5 rfl rfl)
theorem dX5_does_120 : decode cX5_does 120 = .ok (.getfield 31, 3) := dk_180 0 31 (dk_at dksX5_does_5 6 rfl rfl)
theorem dX5_does_123 : decode cX5_does 123 = .ok (.iconst 1, 1) := dk_4 (dk_at dksX5_does_5 9 rfl rfl)
theorem dX5_does_124 : decode cX5_does 124 = .ok (.iaload, 1) := dk_46 (dk_at dksX5_does_5 10 rfl rfl)
theorem dX5_does_125 : decode cX5_does 125 = .ok (.invokevirtual 101, 3) := dk_182 0 101 (dk_at dksX5_does_5 11 rfl rfl)
theorem dX5_does_128 : decode cX5_does 128 = .ok (.ireturn, 1) := dk_172 (dk_at dksX5_does_5 14 rfl rfl)
theorem dX5_does_129 : decode cX5_does 129 = .ok (.aload_n 0, 1) := dk_42 (dk_at dksX5_does_5 15 rfl rfl)
theorem dX5_does_130 : decode cX5_does 130 = .ok (.aload_n 0, 1) := dk_42 (dk_at dksX5_does_5 16 rfl rfl)
theorem dX5_does_131 : decode cX5_does 131 = .ok (.getfield 31, 3) := dk_180 0 31 (dk_at dksX5_does_5 17 rfl rfl)
theorem dX5_does_134 : decode cX5_does 134 = .ok (.iconst 0, 1) := dk_3 (dk_at dksX5_does_5 20 rfl rfl)
theorem dX5_does_135 : decode cX5_does 135 = .ok (.iaload, 1) := dk_46 (dk_at dksX5_does_5 21 rfl rfl)
theorem dX5_does_136 : decode cX5_does 136 = .ok (.aload_n 0, 1) := dk_42 (dk_at dksX5_does_5 22 rfl rfl)
theorem dX5_does_137 : decode cX5_does 137 = .ok (.getfield 31, 3) := dk_180 0 31 (dk_at dksX5_does_6 0 rfl rfl)
theorem dX5_does_140 : decode cX5_does 140 = .ok (.iconst 1, 1) := dk_4 (dk_at dksX5_does_6 3 rfl rfl)
theorem dX5_does_141 : decode cX5_does 141 = .ok (.iaload, 1) := dk_46 (dk_at dksX5_does_6 4 rfl rfl)
theorem dX5_does_142 : decode cX5_does 142 = .ok (.invokevirtual 117, 3) := dk_182 0 117 (dk_at dksX5_does_6 5 rfl rfl)
theorem dX5_does_145 : decode cX5_does 145 = .ok (.ireturn, 1) := dk_172 (dk_at dksX5_does_6 8 rfl rfl)
theorem dX5_does_146 : decode cX5_does 146 = .ok (.aload_n 0, 1) := dk_42 (dk_at dksX5_does_6 9 rfl rfl)
theorem dX5_does_147 : decode cX5_does 147 = .ok (.aload_n 0, 1) := dk_42 (dk_at dksX5_does_6 10 rfl rfl)
theorem dX5_does_148 : decode cX5_does 148 = .ok (.getfield 31, 3) := dk_180 0 31 (dk_at dksX5_does_6 11 rfl rfl)
theorem dX5_does_151 : decode cX5_does 151 = .ok (.iconst 0, 1) := dk_3 (dk_at dksX5_does_6 14 rfl rfl)
theorem dX5_does_152 : decode cX5_does 152 = .ok (.iaload, 1) := dk_46 (dk_at dksX5_does_6 15 rfl rfl)
theorem dX5_does_153 : decode cX5_does 153 = .ok (.invokevirtual 124, 3) := dk_182 0 124 (dk_at dksX5_does_6 16 rfl rfl)
theorem dX5_does_156 : decode cX5_does 156 = .ok (.ireturn, 1) := dk_172 (dk_at dksX5_does_6 19 rfl rfl)
abbrev cX5_undo : ByteArray := prog_11_method_83_code
def yX5_undo : MethodName := ⟨RX5, "undo", "()I"⟩
def dkwX5_undo_2 : List UInt8 := [104, 27, 96, 46, 79, 132, 1, 1, 167, 255, 225, 42, 42, 180, 0, 42, 182, 0, 45, 172]
abbrev dktX5_undo_2 : List UInt8 := dkwX5_undo_2 ++ []
def dkwX5_undo_1 : List UInt8 := [60, 27, 17, 1, 231, 162, 0, 30, 42, 180, 0, 7, 27, 42, 180, 0, 13, 17, 1, 231, 42, 180, 0, 42]
abbrev dktX5_undo_1 : List UInt8 := dkwX5_undo_1 ++ dktX5_undo_2
def dkwX5_undo_0 : List UInt8 := [42, 180, 0, 42, 154, 0, 9, 42, 4, 182, 0, 70, 172, 42, 89, 180, 0, 42, 4, 100, 181, 0, 42, 3]
abbrev dktX5_undo_0 : List UInt8 := dkwX5_undo_0 ++ dktX5_undo_1
theorem dksX5_undo_0 : cX5_undo.data.toList.drop 0 = dktX5_undo_0 := by decide +kernel
theorem dksX5_undo_1 : cX5_undo.data.toList.drop 24 = dktX5_undo_1 := dk_seg dksX5_undo_0 24 rfl rfl
theorem dksX5_undo_2 : cX5_undo.data.toList.drop 48 = dktX5_undo_2 := dk_seg dksX5_undo_1 24 rfl rfl
theorem dX5_undo_0 : decode cX5_undo 0 = .ok (.aload_n 0, 1) := dk_42 (dk_at dksX5_undo_0 0 rfl rfl)
theorem dX5_undo_1 : decode cX5_undo 1 = .ok (.getfield 42, 3) := dk_180 0 42 (dk_at dksX5_undo_0 1 rfl rfl)
theorem dX5_undo_4 : decode cX5_undo 4 = .ok (.ifCond .ne 9, 3) := dk_154 0 9 (dk_at dksX5_undo_0 4 rfl rfl)
theorem dX5_undo_7 : decode cX5_undo 7 = .ok (.aload_n 0, 1) := dk_42 (dk_at dksX5_undo_0 7 rfl rfl)
theorem dX5_undo_8 : decode cX5_undo 8 = .ok (.iconst 1, 1) := dk_4 (dk_at dksX5_undo_0 8 rfl rfl)
theorem dX5_undo_9 : decode cX5_undo 9 = .ok (.invokevirtual 70, 3) := dk_182 0 70 (dk_at dksX5_undo_0 9 rfl rfl)
theorem dX5_undo_12 : decode cX5_undo 12 = .ok (.ireturn, 1) := dk_172 (dk_at dksX5_undo_0 12 rfl rfl)
theorem dX5_undo_13 : decode cX5_undo 13 = .ok (.aload_n 0, 1) := dk_42 (dk_at dksX5_undo_0 13 rfl rfl)
theorem dX5_undo_14 : decode cX5_undo 14 = .ok (.dup, 1) := dk_89 (dk_at dksX5_undo_0 14 rfl rfl)
theorem dX5_undo_15 : decode cX5_undo 15 = .ok (.getfield 42, 3) := dk_180 0 42 (dk_at dksX5_undo_0 15 rfl rfl)
theorem dX5_undo_18 : decode cX5_undo 18 = .ok (.iconst 1, 1) := dk_4 (dk_at dksX5_undo_0 18 rfl rfl)
theorem dX5_undo_19 : decode cX5_undo 19 = .ok (.isub, 1) := dk_100 (dk_at dksX5_undo_0 19 rfl rfl)
theorem dX5_undo_20 : decode cX5_undo 20 = .ok (.putfield 42, 3) := dk_181 0 42 (dk_at dksX5_undo_0 20 rfl rfl)
theorem dX5_undo_23 : decode cX5_undo 23 = .ok (.iconst 0, 1) := dk_3 (dk_at dksX5_undo_0 23 rfl rfl)
theorem dX5_undo_24 : decode cX5_undo 24 = .ok (.istore_n 1, 1) := dk_60 (dk_at dksX5_undo_1 0 rfl rfl)
theorem dX5_undo_25 : decode cX5_undo 25 = .ok (.iload_n 1, 1) := dk_27 (dk_at dksX5_undo_1 1 rfl rfl)
theorem dX5_undo_26 : decode cX5_undo 26 = .ok (.sipush 487, 3) := dk_17 1 231 (dk_at dksX5_undo_1 2 rfl rfl)
theorem dX5_undo_29 : decode cX5_undo 29 = .ok (.if_icmp .ge 30, 3) := dk_162 0 30 (dk_at dksX5_undo_1 5 rfl rfl)
theorem dX5_undo_32 : decode cX5_undo 32 = .ok (.aload_n 0, 1) := dk_42 (dk_at dksX5_undo_1 8 rfl rfl)
theorem dX5_undo_33 : decode cX5_undo 33 = .ok (.getfield 7, 3) := dk_180 0 7 (dk_at dksX5_undo_1 9 rfl rfl)
theorem dX5_undo_36 : decode cX5_undo 36 = .ok (.iload_n 1, 1) := dk_27 (dk_at dksX5_undo_1 12 rfl rfl)
theorem dX5_undo_37 : decode cX5_undo 37 = .ok (.aload_n 0, 1) := dk_42 (dk_at dksX5_undo_1 13 rfl rfl)
theorem dX5_undo_38 : decode cX5_undo 38 = .ok (.getfield 13, 3) := dk_180 0 13 (dk_at dksX5_undo_1 14 rfl rfl)
theorem dX5_undo_41 : decode cX5_undo 41 = .ok (.sipush 487, 3) := dk_17 1 231 (dk_at dksX5_undo_1 17 rfl rfl)
theorem dX5_undo_44 : decode cX5_undo 44 = .ok (.aload_n 0, 1) := dk_42 (dk_at dksX5_undo_1 20 rfl rfl)
theorem dX5_undo_45 : decode cX5_undo 45 = .ok (.getfield 42, 3) := dk_180 0 42 (dk_at dksX5_undo_1 21 rfl rfl)
theorem dX5_undo_48 : decode cX5_undo 48 = .ok (.imul, 1) := dk_104 (dk_at dksX5_undo_2 0 rfl rfl)
theorem dX5_undo_49 : decode cX5_undo 49 = .ok (.iload_n 1, 1) := dk_27 (dk_at dksX5_undo_2 1 rfl rfl)
theorem dX5_undo_50 : decode cX5_undo 50 = .ok (.iadd, 1) := dk_96 (dk_at dksX5_undo_2 2 rfl rfl)
theorem dX5_undo_51 : decode cX5_undo 51 = .ok (.iaload, 1) := dk_46 (dk_at dksX5_undo_2 3 rfl rfl)
theorem dX5_undo_52 : decode cX5_undo 52 = .ok (.iastore, 1) := dk_79 (dk_at dksX5_undo_2 4 rfl rfl)
theorem dX5_undo_53 : decode cX5_undo 53 = .ok (.iinc 1 1, 3) := dk_132 1 1 (dk_at dksX5_undo_2 5 rfl rfl)
theorem dX5_undo_56 : decode cX5_undo 56 = .ok (.goto (-31), 3) := dk_167 255 225 (dk_at dksX5_undo_2 8 rfl rfl)
theorem dX5_undo_59 : decode cX5_undo 59 = .ok (.aload_n 0, 1) := dk_42 (dk_at dksX5_undo_2 11 rfl rfl)
theorem dX5_undo_60 : decode cX5_undo 60 = .ok (.aload_n 0, 1) := dk_42 (dk_at dksX5_undo_2 12 rfl rfl)
theorem dX5_undo_61 : decode cX5_undo 61 = .ok (.getfield 42, 3) := dk_180 0 42 (dk_at dksX5_undo_2 13 rfl rfl)
theorem dX5_undo_64 : decode cX5_undo 64 = .ok (.invokevirtual 45, 3) := dk_182 0 45 (dk_at dksX5_undo_2 16 rfl rfl)
theorem dX5_undo_67 : decode cX5_undo 67 = .ok (.ireturn, 1) := dk_172 (dk_at dksX5_undo_2 19 rfl rfl)
abbrev cX5_digest : ByteArray := prog_11_method_87_code
def yX5_digest : MethodName := ⟨RX5, "digest", "()J"⟩
def dkwX5_digest_8 : List UInt8 := [182, 0, 198, 153, 0, 7, 4, 167, 0, 4, 3, 182, 0, 245, 42, 180, 0, 241, 173]
abbrev dktX5_digest_8 : List UInt8 := dkwX5_digest_8 ++ []
def dkwX5_digest_7 : List UInt8 := [60, 27, 16, 7, 162, 0, 18, 42, 42, 27, 182, 0, 195, 182, 0, 245, 132, 1, 1, 167, 255, 238, 42, 42]
abbrev dktX5_digest_7 : List UInt8 := dkwX5_digest_7 ++ dktX5_digest_8
def dkwX5_digest_6 : List UInt8 := [162, 0, 23, 42, 42, 27, 7, 108, 27, 7, 112, 182, 0, 185, 182, 0, 245, 132, 1, 1, 167, 255, 233, 3]
abbrev dktX5_digest_6 : List UInt8 := dkwX5_digest_6 ++ dktX5_digest_7
def dkwX5_digest_5 : List UInt8 := [180, 0, 7, 8, 46, 162, 0, 14, 42, 27, 182, 0, 253, 132, 1, 1, 167, 255, 238, 3, 60, 27, 16, 16]
abbrev dktX5_digest_5 : List UInt8 := dkwX5_digest_5 ++ dktX5_digest_6
def dkwX5_digest_4 : List UInt8 := [46, 182, 0, 245, 132, 1, 1, 167, 255, 233, 42, 42, 180, 0, 7, 8, 46, 182, 0, 245, 3, 60, 27, 42]
abbrev dktX5_digest_4 : List UInt8 := dkwX5_digest_4 ++ dktX5_digest_5
def dkwX5_digest_3 : List UInt8 := [132, 1, 1, 167, 255, 238, 3, 60, 27, 16, 8, 162, 0, 23, 42, 42, 180, 0, 7, 17, 0, 179, 27, 96]
abbrev dktX5_digest_3 : List UInt8 := dkwX5_digest_3 ++ dktX5_digest_4
def dkwX5_digest_2 : List UInt8 := [132, 1, 1, 167, 255, 238, 3, 60, 27, 42, 180, 0, 7, 3, 46, 162, 0, 14, 42, 27, 182, 0, 250]
abbrev dktX5_digest_2 : List UInt8 := dkwX5_digest_2 ++ dktX5_digest_3
def dkwX5_digest_1 : List UInt8 := [180, 0, 202, 182, 0, 245, 3, 60, 27, 8, 162, 0, 19, 42, 42, 180, 0, 7, 27, 46, 182, 0, 245]
abbrev dktX5_digest_1 : List UInt8 := dkwX5_digest_1 ++ dktX5_digest_2
def dkwX5_digest_0 : List UInt8 := [42, 3, 181, 0, 38, 42, 20, 0, 248, 181, 0, 241, 42, 42, 180, 0, 42, 182, 0, 245, 42, 42]
abbrev dktX5_digest_0 : List UInt8 := dkwX5_digest_0 ++ dktX5_digest_1
theorem dksX5_digest_0 : cX5_digest.data.toList.drop 0 = dktX5_digest_0 := by decide +kernel
theorem dksX5_digest_1 : cX5_digest.data.toList.drop 22 = dktX5_digest_1 := dk_seg dksX5_digest_0 22 rfl rfl
theorem dksX5_digest_2 : cX5_digest.data.toList.drop 45 = dktX5_digest_2 := dk_seg dksX5_digest_1 23 rfl rfl
theorem dksX5_digest_3 : cX5_digest.data.toList.drop 68 = dktX5_digest_3 := dk_seg dksX5_digest_2 23 rfl rfl
theorem dksX5_digest_4 : cX5_digest.data.toList.drop 92 = dktX5_digest_4 := dk_seg dksX5_digest_3 24 rfl rfl
theorem dksX5_digest_5 : cX5_digest.data.toList.drop 116 = dktX5_digest_5 := dk_seg dksX5_digest_4 24 rfl rfl
theorem dksX5_digest_6 : cX5_digest.data.toList.drop 140 = dktX5_digest_6 := dk_seg dksX5_digest_5 24 rfl rfl
theorem dksX5_digest_7 : cX5_digest.data.toList.drop 164 = dktX5_digest_7 := dk_seg dksX5_digest_6 24 rfl rfl
theorem dksX5_digest_8 : cX5_digest.data.toList.drop 188 = dktX5_digest_8 := dk_seg dksX5_digest_7 24 rfl rfl
theorem dX5_digest_0 : decode cX5_digest 0 = .ok (.aload_n 0, 1) := dk_42 (dk_at dksX5_digest_0 0 rfl rfl)
theorem dX5_digest_1 : decode cX5_digest 1 = .ok (.iconst 0, 1) := dk_3 (dk_at dksX5_digest_0 1 rfl rfl)
theorem dX5_digest_2 : decode cX5_digest 2 = .ok (.putfield 38, 3) := dk_181 0 38 (dk_at dksX5_digest_0 2 rfl rfl)
theorem dX5_digest_5 : decode cX5_digest 5 = .ok (.aload_n 0, 1) := dk_42 (dk_at dksX5_digest_0 5 rfl rfl)
theorem dX5_digest_6 : decode cX5_digest 6 = .ok (.ldc2_w 248, 3) := dk_20 0 248 (dk_at dksX5_digest_0 6 rfl rfl)
theorem dX5_digest_9 : decode cX5_digest 9 = .ok (.putfield 241, 3) := dk_181 0 241 (dk_at dksX5_digest_0 9 rfl rfl)
theorem dX5_digest_12 : decode cX5_digest 12 = .ok (.aload_n 0, 1) := dk_42 (dk_at dksX5_digest_0 12 rfl rfl)
theorem dX5_digest_13 : decode cX5_digest 13 = .ok (.aload_n 0, 1) := dk_42 (dk_at dksX5_digest_0 13 rfl rfl)
theorem dX5_digest_14 : decode cX5_digest 14 = .ok (.getfield 42, 3) := dk_180 0 42 (dk_at dksX5_digest_0 14 rfl rfl)
theorem dX5_digest_17 : decode cX5_digest 17 = .ok (.invokevirtual 245, 3) := dk_182 0 245 (dk_at dksX5_digest_0 17 rfl rfl)
theorem dX5_digest_20 : decode cX5_digest 20 = .ok (.aload_n 0, 1) := dk_42 (dk_at dksX5_digest_0 20 rfl rfl)
theorem dX5_digest_21 : decode cX5_digest 21 = .ok (.aload_n 0, 1) := dk_42 (dk_at dksX5_digest_0 21 rfl rfl)
theorem dX5_digest_22 : decode cX5_digest 22 = .ok (.getfield 202, 3) := dk_180 0 202 (dk_at dksX5_digest_1 0 rfl rfl)
theorem dX5_digest_25 : decode cX5_digest 25 = .ok (.invokevirtual 245, 3) := dk_182 0 245 (dk_at dksX5_digest_1 3 rfl rfl)
theorem dX5_digest_28 : decode cX5_digest 28 = .ok (.iconst 0, 1) := dk_3 (dk_at dksX5_digest_1 6 rfl rfl)
theorem dX5_digest_29 : decode cX5_digest 29 = .ok (.istore_n 1, 1) := dk_60 (dk_at dksX5_digest_1 7 rfl rfl)
theorem dX5_digest_30 : decode cX5_digest 30 = .ok (.iload_n 1, 1) := dk_27 (dk_at dksX5_digest_1 8 rfl rfl)
theorem dX5_digest_31 : decode cX5_digest 31 = .ok (.iconst 5, 1) := dk_8 (dk_at dksX5_digest_1 9 rfl rfl)
theorem dX5_digest_32 : decode cX5_digest 32 = .ok (.if_icmp .ge 19, 3) := dk_162 0 19 (dk_at dksX5_digest_1 10 rfl rfl)
theorem dX5_digest_35 : decode cX5_digest 35 = .ok (.aload_n 0, 1) := dk_42 (dk_at dksX5_digest_1 13 rfl rfl)
theorem dX5_digest_36 : decode cX5_digest 36 = .ok (.aload_n 0, 1) := dk_42 (dk_at dksX5_digest_1 14 rfl rfl)
theorem dX5_digest_37 : decode cX5_digest 37 = .ok (.getfield 7, 3) := dk_180 0 7 (dk_at dksX5_digest_1 15 rfl rfl)
theorem dX5_digest_40 : decode cX5_digest 40 = .ok (.iload_n 1, 1) := dk_27 (dk_at dksX5_digest_1 18 rfl rfl)
theorem dX5_digest_41 : decode cX5_digest 41 = .ok (.iaload, 1) := dk_46 (dk_at dksX5_digest_1 19 rfl rfl)
theorem dX5_digest_42 : decode cX5_digest 42 = .ok (.invokevirtual 245, 3) := dk_182 0 245 (dk_at dksX5_digest_1 20 rfl rfl)
theorem dX5_digest_45 : decode cX5_digest 45 = .ok (.iinc 1 1, 3) := dk_132 1 1 (dk_at dksX5_digest_2 0 rfl rfl)
theorem dX5_digest_48 : decode cX5_digest 48 = .ok (.goto (-18), 3) := dk_167 255 238 (dk_at dksX5_digest_2 3 rfl rfl)
theorem dX5_digest_51 : decode cX5_digest 51 = .ok (.iconst 0, 1) := dk_3 (dk_at dksX5_digest_2 6 rfl rfl)
theorem dX5_digest_52 : decode cX5_digest 52 = .ok (.istore_n 1, 1) := dk_60 (dk_at dksX5_digest_2 7 rfl rfl)
theorem dX5_digest_53 : decode cX5_digest 53 = .ok (.iload_n 1, 1) := dk_27 (dk_at dksX5_digest_2 8 rfl rfl)
theorem dX5_digest_54 : decode cX5_digest 54 = .ok (.aload_n 0, 1) := dk_42 (dk_at dksX5_digest_2 9 rfl rfl)
theorem dX5_digest_55 : decode cX5_digest 55 = .ok (.getfield 7, 3) := dk_180 0 7 (dk_at dksX5_digest_2 10 rfl rfl)
theorem dX5_digest_58 : decode cX5_digest 58 = .ok (.iconst 0, 1) := dk_3 (dk_at dksX5_digest_2 13 rfl rfl)
theorem dX5_digest_59 : decode cX5_digest 59 = .ok (.iaload, 1) := dk_46 (dk_at dksX5_digest_2 14 rfl rfl)
theorem dX5_digest_60 : decode cX5_digest 60 = .ok (.if_icmp .ge 14, 3) := dk_162 0 14 (dk_at dksX5_digest_2 15 rfl rfl)
theorem dX5_digest_63 : decode cX5_digest 63 = .ok (.aload_n 0, 1) := dk_42 (dk_at dksX5_digest_2 18 rfl rfl)
theorem dX5_digest_64 : decode cX5_digest 64 = .ok (.iload_n 1, 1) := dk_27 (dk_at dksX5_digest_2 19 rfl rfl)
theorem dX5_digest_65 : decode cX5_digest 65 = .ok (.invokevirtual 250, 3) := dk_182 0 250 (dk_at dksX5_digest_2 20 rfl rfl)
theorem dX5_digest_68 : decode cX5_digest 68 = .ok (.iinc 1 1, 3) := dk_132 1 1 (dk_at dksX5_digest_3 0 rfl rfl)
theorem dX5_digest_71 : decode cX5_digest 71 = .ok (.goto (-18), 3) := dk_167 255 238 (dk_at dksX5_digest_3 3 rfl rfl)
theorem dX5_digest_74 : decode cX5_digest 74 = .ok (.iconst 0, 1) := dk_3 (dk_at dksX5_digest_3 6 rfl rfl)
theorem dX5_digest_75 : decode cX5_digest 75 = .ok (.istore_n 1, 1) := dk_60 (dk_at dksX5_digest_3 7 rfl rfl)
theorem dX5_digest_76 : decode cX5_digest 76 = .ok (.iload_n 1, 1) := dk_27 (dk_at dksX5_digest_3 8 rfl rfl)
theorem dX5_digest_77 : decode cX5_digest 77 = .ok (.bipush 8, 2) := dk_16 8 (dk_at dksX5_digest_3 9 rfl rfl)
theorem dX5_digest_79 : decode cX5_digest 79 = .ok (.if_icmp .ge 23, 3) := dk_162 0 23 (dk_at dksX5_digest_3 11 rfl rfl)
theorem dX5_digest_82 : decode cX5_digest 82 = .ok (.aload_n 0, 1) := dk_42 (dk_at dksX5_digest_3 14 rfl rfl)
theorem dX5_digest_83 : decode cX5_digest 83 = .ok (.aload_n 0, 1) := dk_42 (dk_at dksX5_digest_3 15 rfl rfl)
theorem dX5_digest_84 : decode cX5_digest 84 = .ok (.getfield 7, 3) := dk_180 0 7 (dk_at dksX5_digest_3 16 rfl rfl)
theorem dX5_digest_87 : decode cX5_digest 87 = .ok (.sipush 179, 3) := dk_17 0 179 (dk_at dksX5_digest_3 19 rfl rfl)
theorem dX5_digest_90 : decode cX5_digest 90 = .ok (.iload_n 1, 1) := dk_27 (dk_at dksX5_digest_3 22 rfl rfl)
theorem dX5_digest_91 : decode cX5_digest 91 = .ok (.iadd, 1) := dk_96 (dk_at dksX5_digest_3 23 rfl rfl)
theorem dX5_digest_92 : decode cX5_digest 92 = .ok (.iaload, 1) := dk_46 (dk_at dksX5_digest_4 0 rfl rfl)
theorem dX5_digest_93 : decode cX5_digest 93 = .ok (.invokevirtual 245, 3) := dk_182 0 245 (dk_at dksX5_digest_4 1 rfl rfl)
theorem dX5_digest_96 : decode cX5_digest 96 = .ok (.iinc 1 1, 3) := dk_132 1 1 (dk_at dksX5_digest_4 4 rfl rfl)
theorem dX5_digest_99 : decode cX5_digest 99 = .ok (.goto (-23), 3) := dk_167 255 233 (dk_at dksX5_digest_4 7 rfl rfl)
theorem dX5_digest_102 : decode cX5_digest 102 = .ok (.aload_n 0, 1) := dk_42 (dk_at dksX5_digest_4 10 rfl rfl)
theorem dX5_digest_103 : decode cX5_digest 103 = .ok (.aload_n 0, 1) := dk_42 (dk_at dksX5_digest_4 11 rfl rfl)
theorem dX5_digest_104 : decode cX5_digest 104 = .ok (.getfield 7, 3) := dk_180 0 7 (dk_at dksX5_digest_4 12 rfl rfl)
theorem dX5_digest_107 : decode cX5_digest 107 = .ok (.iconst 5, 1) := dk_8 (dk_at dksX5_digest_4 15 rfl rfl)
theorem dX5_digest_108 : decode cX5_digest 108 = .ok (.iaload, 1) := dk_46 (dk_at dksX5_digest_4 16 rfl rfl)
theorem dX5_digest_109 : decode cX5_digest 109 = .ok (.invokevirtual 245, 3) := dk_182 0 245 (dk_at dksX5_digest_4 17 rfl rfl)
theorem dX5_digest_112 : decode cX5_digest 112 = .ok (.iconst 0, 1) := dk_3 (dk_at dksX5_digest_4 20 rfl rfl)
theorem dX5_digest_113 : decode cX5_digest 113 = .ok (.istore_n 1, 1) := dk_60 (dk_at dksX5_digest_4 21 rfl rfl)
theorem dX5_digest_114 : decode cX5_digest 114 = .ok (.iload_n 1, 1) := dk_27 (dk_at dksX5_digest_4 22 rfl rfl)
theorem dX5_digest_115 : decode cX5_digest 115 = .ok (.aload_n 0, 1) := dk_42 (dk_at dksX5_digest_4 23 rfl rfl)
theorem dX5_digest_116 : decode cX5_digest 116 = .ok (.getfield 7, 3) := dk_180 0 7 (dk_at dksX5_digest_5 0 rfl rfl)
theorem dX5_digest_119 : decode cX5_digest 119 = .ok (.iconst 5, 1) := dk_8 (dk_at dksX5_digest_5 3 rfl rfl)
theorem dX5_digest_120 : decode cX5_digest 120 = .ok (.iaload, 1) := dk_46 (dk_at dksX5_digest_5 4 rfl rfl)
theorem dX5_digest_121 : decode cX5_digest 121 = .ok (.if_icmp .ge 14, 3) := dk_162 0 14 (dk_at dksX5_digest_5 5 rfl rfl)
theorem dX5_digest_124 : decode cX5_digest 124 = .ok (.aload_n 0, 1) := dk_42 (dk_at dksX5_digest_5 8 rfl rfl)
theorem dX5_digest_125 : decode cX5_digest 125 = .ok (.iload_n 1, 1) := dk_27 (dk_at dksX5_digest_5 9 rfl rfl)
theorem dX5_digest_126 : decode cX5_digest 126 = .ok (.invokevirtual 253, 3) := dk_182 0 253 (dk_at dksX5_digest_5 10 rfl rfl)
theorem dX5_digest_129 : decode cX5_digest 129 = .ok (.iinc 1 1, 3) := dk_132 1 1 (dk_at dksX5_digest_5 13 rfl rfl)
theorem dX5_digest_132 : decode cX5_digest 132 = .ok (.goto (-18), 3) := dk_167 255 238 (dk_at dksX5_digest_5 16 rfl rfl)
theorem dX5_digest_135 : decode cX5_digest 135 = .ok (.iconst 0, 1) := dk_3 (dk_at dksX5_digest_5 19 rfl rfl)
theorem dX5_digest_136 : decode cX5_digest 136 = .ok (.istore_n 1, 1) := dk_60 (dk_at dksX5_digest_5 20 rfl rfl)
theorem dX5_digest_137 : decode cX5_digest 137 = .ok (.iload_n 1, 1) := dk_27 (dk_at dksX5_digest_5 21 rfl rfl)
theorem dX5_digest_138 : decode cX5_digest 138 = .ok (.bipush 16, 2) := dk_16 16 (dk_at dksX5_digest_5 22 rfl rfl)
theorem dX5_digest_140 : decode cX5_digest 140 = .ok (.if_icmp .ge 23, 3) := dk_162 0 23 (dk_at dksX5_digest_6 0 rfl rfl)
theorem dX5_digest_143 : decode cX5_digest 143 = .ok (.aload_n 0, 1) := dk_42 (dk_at dksX5_digest_6 3 rfl rfl)
theorem dX5_digest_144 : decode cX5_digest 144 = .ok (.aload_n 0, 1) := dk_42 (dk_at dksX5_digest_6 4 rfl rfl)
theorem dX5_digest_145 : decode cX5_digest 145 = .ok (.iload_n 1, 1) := dk_27 (dk_at dksX5_digest_6 5 rfl rfl)
theorem dX5_digest_146 : decode cX5_digest 146 = .ok (.iconst 4, 1) := dk_7 (dk_at dksX5_digest_6 6 rfl rfl)
theorem dX5_digest_147 : decode cX5_digest 147 = .ok (.idiv, 1) := dk_108 (dk_at dksX5_digest_6 7 rfl rfl)
theorem dX5_digest_148 : decode cX5_digest 148 = .ok (.iload_n 1, 1) := dk_27 (dk_at dksX5_digest_6 8 rfl rfl)
theorem dX5_digest_149 : decode cX5_digest 149 = .ok (.iconst 4, 1) := dk_7 (dk_at dksX5_digest_6 9 rfl rfl)
theorem dX5_digest_150 : decode cX5_digest 150 = .ok (.irem, 1) := dk_112 (dk_at dksX5_digest_6 10 rfl rfl)
theorem dX5_digest_151 : decode cX5_digest 151 = .ok (.invokevirtual 185, 3) := dk_182 0 185 (dk_at dksX5_digest_6 11 rfl rfl)
theorem dX5_digest_154 : decode cX5_digest 154 = .ok (.invokevirtual 245, 3) := dk_182 0 245 (dk_at dksX5_digest_6 14 rfl rfl)
theorem dX5_digest_157 : decode cX5_digest 157 = .ok (.iinc 1 1, 3) := dk_132 1 1 (dk_at dksX5_digest_6 17 rfl rfl)
theorem dX5_digest_160 : decode cX5_digest 160 = .ok (.goto (-23), 3) := dk_167 255 233 (dk_at dksX5_digest_6 20 rfl rfl)
theorem dX5_digest_163 : decode cX5_digest 163 = .ok (.iconst 0, 1) := dk_3 (dk_at dksX5_digest_6 23 rfl rfl)
theorem dX5_digest_164 : decode cX5_digest 164 = .ok (.istore_n 1, 1) := dk_60 (dk_at dksX5_digest_7 0 rfl rfl)
theorem dX5_digest_165 : decode cX5_digest 165 = .ok (.iload_n 1, 1) := dk_27 (dk_at dksX5_digest_7 1 rfl rfl)
theorem dX5_digest_166 : decode cX5_digest 166 = .ok (.bipush 7, 2) := dk_16 7 (dk_at dksX5_digest_7 2 rfl rfl)
theorem dX5_digest_168 : decode cX5_digest 168 = .ok (.if_icmp .ge 18, 3) := dk_162 0 18 (dk_at dksX5_digest_7 4 rfl rfl)
theorem dX5_digest_171 : decode cX5_digest 171 = .ok (.aload_n 0, 1) := dk_42 (dk_at dksX5_digest_7 7 rfl rfl)
theorem dX5_digest_172 : decode cX5_digest 172 = .ok (.aload_n 0, 1) := dk_42 (dk_at dksX5_digest_7 8 rfl rfl)
theorem dX5_digest_173 : decode cX5_digest 173 = .ok (.iload_n 1, 1) := dk_27 (dk_at dksX5_digest_7 9 rfl rfl)
theorem dX5_digest_174 : decode cX5_digest 174 = .ok (.invokevirtual 195, 3) := dk_182 0 195 (dk_at dksX5_digest_7 10 rfl rfl)
theorem dX5_digest_177 : decode cX5_digest 177 = .ok (.invokevirtual 245, 3) := dk_182 0 245 (dk_at dksX5_digest_7 13 rfl rfl)
theorem dX5_digest_180 : decode cX5_digest 180 = .ok (.iinc 1 1, 3) := dk_132 1 1 (dk_at dksX5_digest_7 16 rfl rfl)
theorem dX5_digest_183 : decode cX5_digest 183 = .ok (.goto (-18), 3) := dk_167 255 238 (dk_at dksX5_digest_7 19 rfl rfl)
theorem dX5_digest_186 : decode cX5_digest 186 = .ok (.aload_n 0, 1) := dk_42 (dk_at dksX5_digest_7 22 rfl rfl)
theorem dX5_digest_187 : decode cX5_digest 187 = .ok (.aload_n 0, 1) := dk_42 (dk_at dksX5_digest_7 23 rfl rfl)
theorem dX5_digest_188 : decode cX5_digest 188 = .ok (.invokevirtual 198, 3) := dk_182 0 198 (dk_at dksX5_digest_8 0 rfl rfl)
theorem dX5_digest_191 : decode cX5_digest 191 = .ok (.ifCond .eq 7, 3) := dk_153 0 7 (dk_at dksX5_digest_8 3 rfl rfl)
theorem dX5_digest_194 : decode cX5_digest 194 = .ok (.iconst 1, 1) := dk_4 (dk_at dksX5_digest_8 6 rfl rfl)
theorem dX5_digest_195 : decode cX5_digest 195 = .ok (.goto 4, 3) := dk_167 0 4 (dk_at dksX5_digest_8 7 rfl rfl)
theorem dX5_digest_198 : decode cX5_digest 198 = .ok (.iconst 0, 1) := dk_3 (dk_at dksX5_digest_8 10 rfl rfl)
theorem dX5_digest_199 : decode cX5_digest 199 = .ok (.invokevirtual 245, 3) := dk_182 0 245 (dk_at dksX5_digest_8 11 rfl rfl)
theorem dX5_digest_202 : decode cX5_digest 202 = .ok (.aload_n 0, 1) := dk_42 (dk_at dksX5_digest_8 14 rfl rfl)
theorem dX5_digest_203 : decode cX5_digest 203 = .ok (.getfield 241, 3) := dk_180 0 241 (dk_at dksX5_digest_8 15 rfl rfl)
theorem dX5_digest_206 : decode cX5_digest 206 = .ok (.lreturn, 1) := dk_173 (dk_at dksX5_digest_8 18 rfl rfl)
abbrev cX5_mix : ByteArray := prog_11_method_84_code
def yX5_mix : MethodName := ⟨RX5, "mix", "(I)V"⟩
def dkwX5_mix_0 : List UInt8 := [42, 20, 0, 239, 42, 180, 0, 241, 105, 27, 133, 97, 181, 0, 241, 177]
abbrev dktX5_mix_0 : List UInt8 := dkwX5_mix_0 ++ []
theorem dksX5_mix_0 : cX5_mix.data.toList.drop 0 = dktX5_mix_0 := by decide +kernel
theorem dX5_mix_0 : decode cX5_mix 0 = .ok (.aload_n 0, 1) := dk_42 (dk_at dksX5_mix_0 0 rfl rfl)
theorem dX5_mix_1 : decode cX5_mix 1 = .ok (.ldc2_w 239, 3) := dk_20 0 239 (dk_at dksX5_mix_0 1 rfl rfl)
theorem dX5_mix_4 : decode cX5_mix 4 = .ok (.aload_n 0, 1) := dk_42 (dk_at dksX5_mix_0 4 rfl rfl)
theorem dX5_mix_5 : decode cX5_mix 5 = .ok (.getfield 241, 3) := dk_180 0 241 (dk_at dksX5_mix_0 5 rfl rfl)
theorem dX5_mix_8 : decode cX5_mix 8 = .ok (.lmul, 1) := dk_105 (dk_at dksX5_mix_0 8 rfl rfl)
theorem dX5_mix_9 : decode cX5_mix 9 = .ok (.iload_n 1, 1) := dk_27 (dk_at dksX5_mix_0 9 rfl rfl)
theorem dX5_mix_10 : decode cX5_mix 10 = .ok (.i2l, 1) := dk_133 (dk_at dksX5_mix_0 10 rfl rfl)
theorem dX5_mix_11 : decode cX5_mix 11 = .ok (.ladd, 1) := dk_97 (dk_at dksX5_mix_0 11 rfl rfl)
theorem dX5_mix_12 : decode cX5_mix 12 = .ok (.putfield 241, 3) := dk_181 0 241 (dk_at dksX5_mix_0 12 rfl rfl)
theorem dX5_mix_15 : decode cX5_mix 15 = .ok (.return_, 1) := dk_177 (dk_at dksX5_mix_0 15 rfl rfl)
abbrev cX5_mixBridge : ByteArray := prog_11_method_86_code
def yX5_mixBridge : MethodName := ⟨RX5, "mixBridge", "(I)V"⟩
def dkwX5_mixBridge_2 : List UInt8 := [177]
abbrev dktX5_mixBridge_2 : List UInt8 := dkwX5_mixBridge_2 ++ []
def dkwX5_mixBridge_1 : List UInt8 := [3, 61, 28, 16, 8, 162, 0, 19, 42, 42, 27, 28, 182, 0, 170, 182, 0, 245, 132, 2, 1, 167, 255, 237]
abbrev dktX5_mixBridge_1 : List UInt8 := dkwX5_mixBridge_1 ++ dktX5_mixBridge_2
def dkwX5_mixBridge_0 : List UInt8 := [3, 61, 28, 16, 6, 162, 0, 19, 42, 42, 27, 28, 182, 0, 176, 182, 0, 245, 132, 2, 1, 167, 255, 237]
abbrev dktX5_mixBridge_0 : List UInt8 := dkwX5_mixBridge_0 ++ dktX5_mixBridge_1
theorem dksX5_mixBridge_0 : cX5_mixBridge.data.toList.drop 0 = dktX5_mixBridge_0 := by decide +kernel
theorem dksX5_mixBridge_1 : cX5_mixBridge.data.toList.drop 24 = dktX5_mixBridge_1 := dk_seg dksX5_mixBridge_0 24 rfl rfl
theorem dksX5_mixBridge_2 : cX5_mixBridge.data.toList.drop 48 = dktX5_mixBridge_2 := dk_seg dksX5_mixBridge_1 24 rfl rfl
theorem dX5_mixBridge_0 : decode cX5_mixBridge 0 = .ok (.iconst 0, 1) := dk_3 (dk_at dksX5_mixBridge_0 0 rfl rfl)
theorem dX5_mixBridge_1 : decode cX5_mixBridge 1 = .ok (.istore_n 2, 1) := dk_61 (dk_at dksX5_mixBridge_0 1 rfl rfl)
theorem dX5_mixBridge_2 : decode cX5_mixBridge 2 = .ok (.iload_n 2, 1) := dk_28 (dk_at dksX5_mixBridge_0 2 rfl rfl)
theorem dX5_mixBridge_3 : decode cX5_mixBridge 3 = .ok (.bipush 6, 2) := dk_16 6 (dk_at dksX5_mixBridge_0 3 rfl rfl)
theorem dX5_mixBridge_5 : decode cX5_mixBridge 5 = .ok (.if_icmp .ge 19, 3) := dk_162 0 19 (dk_at dksX5_mixBridge_0 5 rfl rfl)
theorem dX5_mixBridge_8 : decode cX5_mixBridge 8 = .ok (.aload_n 0, 1) := dk_42 (dk_at dksX5_mixBridge_0 8 rfl rfl)
theorem dX5_mixBridge_9 : decode cX5_mixBridge 9 = .ok (.aload_n 0, 1) := dk_42 (dk_at dksX5_mixBridge_0 9 rfl rfl)
theorem dX5_mixBridge_10 : decode cX5_mixBridge 10 = .ok (.iload_n 1, 1) := dk_27 (dk_at dksX5_mixBridge_0 10 rfl rfl)
theorem dX5_mixBridge_11 : decode cX5_mixBridge 11 = .ok (.iload_n 2, 1) := dk_28 (dk_at dksX5_mixBridge_0 11 rfl rfl)
theorem dX5_mixBridge_12 : decode cX5_mixBridge 12 = .ok (.invokevirtual 176, 3) := dk_182 0 176 (dk_at dksX5_mixBridge_0 12 rfl rfl)
theorem dX5_mixBridge_15 : decode cX5_mixBridge 15 = .ok (.invokevirtual 245, 3) := dk_182 0 245 (dk_at dksX5_mixBridge_0 15 rfl rfl)
theorem dX5_mixBridge_18 : decode cX5_mixBridge 18 = .ok (.iinc 2 1, 3) := dk_132 2 1 (dk_at dksX5_mixBridge_0 18 rfl rfl)
theorem dX5_mixBridge_21 : decode cX5_mixBridge 21 = .ok (.goto (-19), 3) := dk_167 255 237 (dk_at dksX5_mixBridge_0 21 rfl rfl)
theorem dX5_mixBridge_24 : decode cX5_mixBridge 24 = .ok (.iconst 0, 1) := dk_3 (dk_at dksX5_mixBridge_1 0 rfl rfl)
theorem dX5_mixBridge_25 : decode cX5_mixBridge 25 = .ok (.istore_n 2, 1) := dk_61 (dk_at dksX5_mixBridge_1 1 rfl rfl)
theorem dX5_mixBridge_26 : decode cX5_mixBridge 26 = .ok (.iload_n 2, 1) := dk_28 (dk_at dksX5_mixBridge_1 2 rfl rfl)
theorem dX5_mixBridge_27 : decode cX5_mixBridge 27 = .ok (.bipush 8, 2) := dk_16 8 (dk_at dksX5_mixBridge_1 3 rfl rfl)
theorem dX5_mixBridge_29 : decode cX5_mixBridge 29 = .ok (.if_icmp .ge 19, 3) := dk_162 0 19 (dk_at dksX5_mixBridge_1 5 rfl rfl)
theorem dX5_mixBridge_32 : decode cX5_mixBridge 32 = .ok (.aload_n 0, 1) := dk_42 (dk_at dksX5_mixBridge_1 8 rfl rfl)
theorem dX5_mixBridge_33 : decode cX5_mixBridge 33 = .ok (.aload_n 0, 1) := dk_42 (dk_at dksX5_mixBridge_1 9 rfl rfl)
theorem dX5_mixBridge_34 : decode cX5_mixBridge 34 = .ok (.iload_n 1, 1) := dk_27 (dk_at dksX5_mixBridge_1 10 rfl rfl)
theorem dX5_mixBridge_35 : decode cX5_mixBridge 35 = .ok (.iload_n 2, 1) := dk_28 (dk_at dksX5_mixBridge_1 11 rfl rfl)
theorem dX5_mixBridge_36 : decode cX5_mixBridge 36 = .ok (.invokevirtual 170, 3) := dk_182 0 170 (dk_at dksX5_mixBridge_1 12 rfl rfl)
theorem dX5_mixBridge_39 : decode cX5_mixBridge 39 = .ok (.invokevirtual 245, 3) := dk_182 0 245 (dk_at dksX5_mixBridge_1 15 rfl rfl)
theorem dX5_mixBridge_42 : decode cX5_mixBridge 42 = .ok (.iinc 2 1, 3) := dk_132 2 1 (dk_at dksX5_mixBridge_1 18 rfl rfl)
theorem dX5_mixBridge_45 : decode cX5_mixBridge 45 = .ok (.goto (-19), 3) := dk_167 255 237 (dk_at dksX5_mixBridge_1 21 rfl rfl)
theorem dX5_mixBridge_48 : decode cX5_mixBridge 48 = .ok (.return_, 1) := dk_177 (dk_at dksX5_mixBridge_2 0 rfl rfl)
abbrev cX5_mixLink : ByteArray := prog_11_method_85_code
def yX5_mixLink : MethodName := ⟨RX5, "mixLink", "(I)V"⟩
def dkwX5_mixLink_2 : List UInt8 := [167, 255, 237, 177]
abbrev dktX5_mixLink_2 : List UInt8 := dkwX5_mixLink_2 ++ []
def dkwX5_mixLink_1 : List UInt8 := [16, 8, 61, 28, 16, 18, 162, 0, 19, 42, 42, 27, 28, 182, 0, 62, 182, 0, 245, 132, 2, 1]
abbrev dktX5_mixLink_1 : List UInt8 := dkwX5_mixLink_1 ++ dktX5_mixLink_2
def dkwX5_mixLink_0 : List UInt8 := [3, 61, 28, 16, 9, 162, 0, 19, 42, 42, 27, 28, 182, 0, 179, 182, 0, 245, 132, 2, 1, 167, 255, 237]
abbrev dktX5_mixLink_0 : List UInt8 := dkwX5_mixLink_0 ++ dktX5_mixLink_1
theorem dksX5_mixLink_0 : cX5_mixLink.data.toList.drop 0 = dktX5_mixLink_0 := by decide +kernel
theorem dksX5_mixLink_1 : cX5_mixLink.data.toList.drop 24 = dktX5_mixLink_1 := dk_seg dksX5_mixLink_0 24 rfl rfl
theorem dksX5_mixLink_2 : cX5_mixLink.data.toList.drop 46 = dktX5_mixLink_2 := dk_seg dksX5_mixLink_1 22 rfl rfl
theorem dX5_mixLink_0 : decode cX5_mixLink 0 = .ok (.iconst 0, 1) := dk_3 (dk_at dksX5_mixLink_0 0 rfl rfl)
theorem dX5_mixLink_1 : decode cX5_mixLink 1 = .ok (.istore_n 2, 1) := dk_61 (dk_at dksX5_mixLink_0 1 rfl rfl)
theorem dX5_mixLink_2 : decode cX5_mixLink 2 = .ok (.iload_n 2, 1) := dk_28 (dk_at dksX5_mixLink_0 2 rfl rfl)
theorem dX5_mixLink_3 : decode cX5_mixLink 3 = .ok (.bipush 9, 2) := dk_16 9 (dk_at dksX5_mixLink_0 3 rfl rfl)
theorem dX5_mixLink_5 : decode cX5_mixLink 5 = .ok (.if_icmp .ge 19, 3) := dk_162 0 19 (dk_at dksX5_mixLink_0 5 rfl rfl)
theorem dX5_mixLink_8 : decode cX5_mixLink 8 = .ok (.aload_n 0, 1) := dk_42 (dk_at dksX5_mixLink_0 8 rfl rfl)
theorem dX5_mixLink_9 : decode cX5_mixLink 9 = .ok (.aload_n 0, 1) := dk_42 (dk_at dksX5_mixLink_0 9 rfl rfl)
theorem dX5_mixLink_10 : decode cX5_mixLink 10 = .ok (.iload_n 1, 1) := dk_27 (dk_at dksX5_mixLink_0 10 rfl rfl)
theorem dX5_mixLink_11 : decode cX5_mixLink 11 = .ok (.iload_n 2, 1) := dk_28 (dk_at dksX5_mixLink_0 11 rfl rfl)
theorem dX5_mixLink_12 : decode cX5_mixLink 12 = .ok (.invokevirtual 179, 3) := dk_182 0 179 (dk_at dksX5_mixLink_0 12 rfl rfl)
theorem dX5_mixLink_15 : decode cX5_mixLink 15 = .ok (.invokevirtual 245, 3) := dk_182 0 245 (dk_at dksX5_mixLink_0 15 rfl rfl)
theorem dX5_mixLink_18 : decode cX5_mixLink 18 = .ok (.iinc 2 1, 3) := dk_132 2 1 (dk_at dksX5_mixLink_0 18 rfl rfl)
theorem dX5_mixLink_21 : decode cX5_mixLink 21 = .ok (.goto (-19), 3) := dk_167 255 237 (dk_at dksX5_mixLink_0 21 rfl rfl)
theorem dX5_mixLink_24 : decode cX5_mixLink 24 = .ok (.bipush 8, 2) := dk_16 8 (dk_at dksX5_mixLink_1 0 rfl rfl)
theorem dX5_mixLink_26 : decode cX5_mixLink 26 = .ok (.istore_n 2, 1) := dk_61 (dk_at dksX5_mixLink_1 2 rfl rfl)
theorem dX5_mixLink_27 : decode cX5_mixLink 27 = .ok (.iload_n 2, 1) := dk_28 (dk_at dksX5_mixLink_1 3 rfl rfl)
theorem dX5_mixLink_28 : decode cX5_mixLink 28 = .ok (.bipush 18, 2) := dk_16 18 (dk_at dksX5_mixLink_1 4 rfl rfl)
theorem dX5_mixLink_30 : decode cX5_mixLink 30 = .ok (.if_icmp .ge 19, 3) := dk_162 0 19 (dk_at dksX5_mixLink_1 6 rfl rfl)
theorem dX5_mixLink_33 : decode cX5_mixLink 33 = .ok (.aload_n 0, 1) := dk_42 (dk_at dksX5_mixLink_1 9 rfl rfl)
theorem dX5_mixLink_34 : decode cX5_mixLink 34 = .ok (.aload_n 0, 1) := dk_42 (dk_at dksX5_mixLink_1 10 rfl rfl)
theorem dX5_mixLink_35 : decode cX5_mixLink 35 = .ok (.iload_n 1, 1) := dk_27 (dk_at dksX5_mixLink_1 11 rfl rfl)
theorem dX5_mixLink_36 : decode cX5_mixLink 36 = .ok (.iload_n 2, 1) := dk_28 (dk_at dksX5_mixLink_1 12 rfl rfl)
theorem dX5_mixLink_37 : decode cX5_mixLink 37 = .ok (.invokevirtual 62, 3) := dk_182 0 62 (dk_at dksX5_mixLink_1 13 rfl rfl)
theorem dX5_mixLink_40 : decode cX5_mixLink 40 = .ok (.invokevirtual 245, 3) := dk_182 0 245 (dk_at dksX5_mixLink_1 16 rfl rfl)
theorem dX5_mixLink_43 : decode cX5_mixLink 43 = .ok (.iinc 2 1, 3) := dk_132 2 1 (dk_at dksX5_mixLink_1 19 rfl rfl)
theorem dX5_mixLink_46 : decode cX5_mixLink 46 = .ok (.goto (-19), 3) := dk_167 255 237 (dk_at dksX5_mixLink_2 0 rfl rfl)
theorem dX5_mixLink_49 : decode cX5_mixLink 49 = .ok (.return_, 1) := dk_177 (dk_at dksX5_mixLink_2 3 rfl rfl)
