set_option maxRecDepth 100000
theorem q76 : (Jvm.Cond.initialized "BridgeAuctionLaw") ∈ lw_all := lw_g (lw_at lw_m1 0 rfl) rfl
theorem q109 : (Jvm.Cond.classLink "BridgeAuctionLaw" (8 : Nat) "BridgeAuction") ∈ lw_all := lw_g (lw_at lw_m1 33 rfl) rfl
theorem q111 : (Jvm.Cond.methodLink "BridgeAuctionLaw" (80 : Nat) ({ cls := "BridgeAuction", name := "<init>", desc := "()V" } : Jvm.MethodName)) ∈ lw_all := lw_g (lw_at lw_m1 35 rfl) rfl
theorem q364 : (Jvm.Cond.methodLink "BridgeAuctionLaw" (122 : Nat) ({ cls := "BridgeAuction", name := "time", desc := "()I" } : Jvm.MethodName)) ∈ lw_all := lw_g (lw_at lw_m2 48 rfl) rfl
theorem q368 : (Jvm.Cond.methodLink "BridgeAuctionLaw" (132 : Nat) ({ cls := "BridgeAuction", name := "links", desc := "()I" } : Jvm.MethodName)) ∈ lw_all := lw_g (lw_at lw_m2 52 rfl) rfl
theorem q376 : (Jvm.Cond.methodLink "BridgeAuctionLaw" (155 : Nat) ({ cls := "BridgeAuction", name := "isForest", desc := "()Z" } : Jvm.MethodName)) ∈ lw_all := lw_g (lw_at lw_m2 60 rfl) rfl
theorem q413 : (Jvm.Cond.methodLink "BridgeAuctionLaw" (163 : Nat) ({ cls := "BridgeAuction", name := "clearScript", desc := "()I" } : Jvm.MethodName)) ∈ lw_all := lw_g (lw_at lw_m2 97 rfl) rfl
theorem q417 : (Jvm.Cond.methodLink "BridgeAuctionLaw" (167 : Nat) ({ cls := "BridgeAuction", name := "run", desc := "()I" } : Jvm.MethodName)) ∈ lw_all := lw_g (lw_at lw_m2 101 rfl) rfl
theorem q1209 : (Jvm.Cond.methodLink "BridgeAuctionLaw" (175 : Nat) ({ cls := "BridgeAuction", name := "digest", desc := "()J" } : Jvm.MethodName)) ∈ lw_all := lw_g (lw_at lw_m5 173 rfl) rfl
theorem q1265 : (Jvm.Cond.methodLink "BridgeAuctionLaw" (84 : Nat) ({ cls := "BridgeAuctionLaw", name := "setBridges", desc := "(LBridgeAuction;I[J)I" } : Jvm.MethodName)) ∈ lw_all := lw_g (lw_at lw_m5 229 rfl) rfl
theorem q1266 : (Jvm.Cond.static ({ cls := "BridgeAuctionLaw", name := "setBridges", desc := "(LBridgeAuction;I[J)I" } : Jvm.MethodName)) ∈ lw_all := lw_g (lw_at lw_m5 230 rfl) rfl
theorem q1267 : (Jvm.Cond.codeWith ({ cls := "BridgeAuctionLaw", name := "setBridges", desc := "(LBridgeAuction;I[J)I" } : Jvm.MethodName) method_3_code (4 : Nat) (Option.some Jvm.ClassFile.FieldType.int) [((0 : Nat), (9 : Nat), (12 : Nat), (13 : Nat))]) ∈ lw_all := lw_g (lw_at lw_m5 231 rfl) rfl
theorem q1268 : (Jvm.Cond.classLink "BridgeAuctionLaw" (13 : Nat) "java/lang/IllegalArgumentException") ∈ lw_all := lw_g (lw_at lw_m5 232 rfl) rfl
theorem q1269 : (Jvm.Cond.methodLink "BridgeAuctionLaw" (7 : Nat) ({ cls := "BridgeAuction", name := "setBridges", desc := "(I)I" } : Jvm.MethodName)) ∈ lw_all := lw_g (lw_at lw_m5 233 rfl) rfl
theorem q1278 : (Jvm.Cond.methodLink "BridgeAuctionLaw" (93 : Nat) ({ cls := "BridgeAuctionLaw", name := "setTimes", desc := "(LBridgeAuction;III[J)I" } : Jvm.MethodName)) ∈ lw_all := lw_g (lw_at lw_m6 2 rfl) rfl
theorem q1279 : (Jvm.Cond.static ({ cls := "BridgeAuctionLaw", name := "setTimes", desc := "(LBridgeAuction;III[J)I" } : Jvm.MethodName)) ∈ lw_all := lw_g (lw_at lw_m6 3 rfl) rfl
theorem q1280 : (Jvm.Cond.codeWith ({ cls := "BridgeAuctionLaw", name := "setTimes", desc := "(LBridgeAuction;III[J)I" } : Jvm.MethodName) method_4_code (6 : Nat) (Option.some Jvm.ClassFile.FieldType.int) [((0 : Nat), (12 : Nat), (15 : Nat), (13 : Nat))]) ∈ lw_all := lw_g (lw_at lw_m6 4 rfl) rfl
theorem q1281 : (Jvm.Cond.methodLink "BridgeAuctionLaw" (15 : Nat) ({ cls := "BridgeAuction", name := "setTimes", desc := "(III)I" } : Jvm.MethodName)) ∈ lw_all := lw_g (lw_at lw_m6 5 rfl) rfl
theorem q1289 : (Jvm.Cond.methodLink "BridgeAuctionLaw" (97 : Nat) ({ cls := "BridgeAuctionLaw", name := "setPriority", desc := "(LBridgeAuction;II[J)I" } : Jvm.MethodName)) ∈ lw_all := lw_g (lw_at lw_m6 13 rfl) rfl
theorem q1290 : (Jvm.Cond.static ({ cls := "BridgeAuctionLaw", name := "setPriority", desc := "(LBridgeAuction;II[J)I" } : Jvm.MethodName)) ∈ lw_all := lw_g (lw_at lw_m6 14 rfl) rfl
theorem q1291 : (Jvm.Cond.codeWith ({ cls := "BridgeAuctionLaw", name := "setPriority", desc := "(LBridgeAuction;II[J)I" } : Jvm.MethodName) method_5_code (5 : Nat) (Option.some Jvm.ClassFile.FieldType.int) [((0 : Nat), (10 : Nat), (13 : Nat), (23 : Nat)), ((0 : Nat), (10 : Nat), (17 : Nat), (13 : Nat))]) ∈ lw_all := lw_g (lw_at lw_m6 15 rfl) rfl
theorem q1292 : (Jvm.Cond.classLink "BridgeAuctionLaw" (23 : Nat) "java/lang/IndexOutOfBoundsException") ∈ lw_all := lw_g (lw_at lw_m6 16 rfl) rfl
theorem q1293 : (Jvm.Cond.methodLink "BridgeAuctionLaw" (19 : Nat) ({ cls := "BridgeAuction", name := "setPriority", desc := "(II)I" } : Jvm.MethodName)) ∈ lw_all := lw_g (lw_at lw_m6 17 rfl) rfl
theorem q1297 : (Jvm.Cond.methodLink "BridgeAuctionLaw" (101 : Nat) ({ cls := "BridgeAuctionLaw", name := "addLink", desc := "(LBridgeAuction;III[J)I" } : Jvm.MethodName)) ∈ lw_all := lw_g (lw_at lw_m6 21 rfl) rfl
theorem q1298 : (Jvm.Cond.static ({ cls := "BridgeAuctionLaw", name := "addLink", desc := "(LBridgeAuction;III[J)I" } : Jvm.MethodName)) ∈ lw_all := lw_g (lw_at lw_m6 22 rfl) rfl
theorem q1299 : (Jvm.Cond.codeWith ({ cls := "BridgeAuctionLaw", name := "addLink", desc := "(LBridgeAuction;III[J)I" } : Jvm.MethodName) method_6_code (6 : Nat) (Option.some Jvm.ClassFile.FieldType.int) [((0 : Nat), (12 : Nat), (15 : Nat), (23 : Nat)), ((0 : Nat), (12 : Nat), (19 : Nat), (13 : Nat)), ((0 : Nat), (12 : Nat), (23 : Nat), (28 : Nat))]) ∈ lw_all := lw_g (lw_at lw_m6 23 rfl) rfl
theorem q1300 : (Jvm.Cond.classLink "BridgeAuctionLaw" (28 : Nat) "java/lang/IllegalStateException") ∈ lw_all := lw_g (lw_at lw_m6 24 rfl) rfl
theorem q1301 : (Jvm.Cond.methodLink "BridgeAuctionLaw" (25 : Nat) ({ cls := "BridgeAuction", name := "addLink", desc := "(III)I" } : Jvm.MethodName)) ∈ lw_all := lw_g (lw_at lw_m6 25 rfl) rfl
theorem q1305 : (Jvm.Cond.methodLink "BridgeAuctionLaw" (104 : Nat) ({ cls := "BridgeAuctionLaw", name := "fail", desc := "(LBridgeAuction;I[J)I" } : Jvm.MethodName)) ∈ lw_all := lw_g (lw_at lw_m6 29 rfl) rfl
theorem q1306 : (Jvm.Cond.static ({ cls := "BridgeAuctionLaw", name := "fail", desc := "(LBridgeAuction;I[J)I" } : Jvm.MethodName)) ∈ lw_all := lw_g (lw_at lw_m6 30 rfl) rfl
theorem q1307 : (Jvm.Cond.codeWith ({ cls := "BridgeAuctionLaw", name := "fail", desc := "(LBridgeAuction;I[J)I" } : Jvm.MethodName) method_7_code (4 : Nat) (Option.some Jvm.ClassFile.FieldType.int) [((0 : Nat), (9 : Nat), (12 : Nat), (23 : Nat)), ((0 : Nat), (9 : Nat), (15 : Nat), (28 : Nat))]) ∈ lw_all := lw_g (lw_at lw_m6 31 rfl) rfl
theorem q1308 : (Jvm.Cond.methodLink "BridgeAuctionLaw" (30 : Nat) ({ cls := "BridgeAuction", name := "fail", desc := "(I)I" } : Jvm.MethodName)) ∈ lw_all := lw_g (lw_at lw_m6 32 rfl) rfl
theorem q1312 : (Jvm.Cond.methodLink "BridgeAuctionLaw" (107 : Nat) ({ cls := "BridgeAuctionLaw", name := "fix", desc := "(LBridgeAuction;I[J)I" } : Jvm.MethodName)) ∈ lw_all := lw_g (lw_at lw_m6 36 rfl) rfl
theorem q1313 : (Jvm.Cond.static ({ cls := "BridgeAuctionLaw", name := "fix", desc := "(LBridgeAuction;I[J)I" } : Jvm.MethodName)) ∈ lw_all := lw_g (lw_at lw_m6 37 rfl) rfl
theorem q1314 : (Jvm.Cond.codeWith ({ cls := "BridgeAuctionLaw", name := "fix", desc := "(LBridgeAuction;I[J)I" } : Jvm.MethodName) method_8_code (4 : Nat) (Option.some Jvm.ClassFile.FieldType.int) [((0 : Nat), (9 : Nat), (12 : Nat), (23 : Nat)), ((0 : Nat), (9 : Nat), (15 : Nat), (28 : Nat))]) ∈ lw_all := lw_g (lw_at lw_m6 38 rfl) rfl
theorem q1315 : (Jvm.Cond.methodLink "BridgeAuctionLaw" (33 : Nat) ({ cls := "BridgeAuction", name := "fix", desc := "(I)I" } : Jvm.MethodName)) ∈ lw_all := lw_g (lw_at lw_m6 39 rfl) rfl
theorem q1319 : (Jvm.Cond.methodLink "BridgeAuctionLaw" (110 : Nat) ({ cls := "BridgeAuctionLaw", name := "moveHost", desc := "(LBridgeAuction;II[J)I" } : Jvm.MethodName)) ∈ lw_all := lw_g (lw_at lw_m6 43 rfl) rfl
theorem q1320 : (Jvm.Cond.static ({ cls := "BridgeAuctionLaw", name := "moveHost", desc := "(LBridgeAuction;II[J)I" } : Jvm.MethodName)) ∈ lw_all := lw_g (lw_at lw_m6 44 rfl) rfl
theorem q1321 : (Jvm.Cond.codeWith ({ cls := "BridgeAuctionLaw", name := "moveHost", desc := "(LBridgeAuction;II[J)I" } : Jvm.MethodName) method_9_code (5 : Nat) (Option.some Jvm.ClassFile.FieldType.int) [((0 : Nat), (10 : Nat), (13 : Nat), (23 : Nat))]) ∈ lw_all := lw_g (lw_at lw_m6 45 rfl) rfl
theorem q1322 : (Jvm.Cond.methodLink "BridgeAuctionLaw" (36 : Nat) ({ cls := "BridgeAuction", name := "moveHost", desc := "(II)I" } : Jvm.MethodName)) ∈ lw_all := lw_g (lw_at lw_m6 46 rfl) rfl
theorem q1326 : (Jvm.Cond.methodLink "BridgeAuctionLaw" (113 : Nat) ({ cls := "BridgeAuctionLaw", name := "bid", desc := "(LBridgeAuction;III[J)I" } : Jvm.MethodName)) ∈ lw_all := lw_g (lw_at lw_m6 50 rfl) rfl
theorem q1327 : (Jvm.Cond.static ({ cls := "BridgeAuctionLaw", name := "bid", desc := "(LBridgeAuction;III[J)I" } : Jvm.MethodName)) ∈ lw_all := lw_g (lw_at lw_m6 51 rfl) rfl
theorem q1328 : (Jvm.Cond.codeWith ({ cls := "BridgeAuctionLaw", name := "bid", desc := "(LBridgeAuction;III[J)I" } : Jvm.MethodName) method_10_code (6 : Nat) (Option.some Jvm.ClassFile.FieldType.int) [((0 : Nat), (12 : Nat), (15 : Nat), (23 : Nat)), ((0 : Nat), (12 : Nat), (19 : Nat), (13 : Nat))]) ∈ lw_all := lw_g (lw_at lw_m6 52 rfl) rfl
theorem q1329 : (Jvm.Cond.methodLink "BridgeAuctionLaw" (39 : Nat) ({ cls := "BridgeAuction", name := "bid", desc := "(III)I" } : Jvm.MethodName)) ∈ lw_all := lw_g (lw_at lw_m6 53 rfl) rfl
theorem q1333 : (Jvm.Cond.methodLink "BridgeAuctionLaw" (116 : Nat) ({ cls := "BridgeAuctionLaw", name := "grant", desc := "(LBridgeAuction;II[J)I" } : Jvm.MethodName)) ∈ lw_all := lw_g (lw_at lw_m6 57 rfl) rfl
theorem q1334 : (Jvm.Cond.static ({ cls := "BridgeAuctionLaw", name := "grant", desc := "(LBridgeAuction;II[J)I" } : Jvm.MethodName)) ∈ lw_all := lw_g (lw_at lw_m6 58 rfl) rfl
theorem q1335 : (Jvm.Cond.codeWith ({ cls := "BridgeAuctionLaw", name := "grant", desc := "(LBridgeAuction;II[J)I" } : Jvm.MethodName) method_11_code (5 : Nat) (Option.some Jvm.ClassFile.FieldType.int) [((0 : Nat), (10 : Nat), (13 : Nat), (23 : Nat)), ((0 : Nat), (10 : Nat), (17 : Nat), (13 : Nat)), ((0 : Nat), (10 : Nat), (21 : Nat), (28 : Nat))]) ∈ lw_all := lw_g (lw_at lw_m6 59 rfl) rfl
theorem q1336 : (Jvm.Cond.methodLink "BridgeAuctionLaw" (42 : Nat) ({ cls := "BridgeAuction", name := "grant", desc := "(II)I" } : Jvm.MethodName)) ∈ lw_all := lw_g (lw_at lw_m6 60 rfl) rfl
theorem q1351 : (Jvm.Cond.methodLink "BridgeAuctionLaw" (119 : Nat) ({ cls := "BridgeAuctionLaw", name := "tick", desc := "(LBridgeAuction;I[J)I" } : Jvm.MethodName)) ∈ lw_all := lw_g (lw_at lw_m6 75 rfl) rfl
theorem q1352 : (Jvm.Cond.static ({ cls := "BridgeAuctionLaw", name := "tick", desc := "(LBridgeAuction;I[J)I" } : Jvm.MethodName)) ∈ lw_all := lw_g (lw_at lw_m6 76 rfl) rfl
theorem q1353 : (Jvm.Cond.codeWith ({ cls := "BridgeAuctionLaw", name := "tick", desc := "(LBridgeAuction;I[J)I" } : Jvm.MethodName) method_12_code (4 : Nat) (Option.some Jvm.ClassFile.FieldType.int) [((0 : Nat), (9 : Nat), (12 : Nat), (13 : Nat))]) ∈ lw_all := lw_g (lw_at lw_m6 77 rfl) rfl
theorem q1354 : (Jvm.Cond.methodLink "BridgeAuctionLaw" (45 : Nat) ({ cls := "BridgeAuction", name := "tick", desc := "(I)I" } : Jvm.MethodName)) ∈ lw_all := lw_g (lw_at lw_m6 78 rfl) rfl
theorem q1358 : (Jvm.Cond.methodLink "BridgeAuctionLaw" (126 : Nat) ({ cls := "BridgeAuctionLaw", name := "send", desc := "(LBridgeAuction;II[J)I" } : Jvm.MethodName)) ∈ lw_all := lw_g (lw_at lw_m6 82 rfl) rfl
theorem q1359 : (Jvm.Cond.static ({ cls := "BridgeAuctionLaw", name := "send", desc := "(LBridgeAuction;II[J)I" } : Jvm.MethodName)) ∈ lw_all := lw_g (lw_at lw_m6 83 rfl) rfl
theorem q1360 : (Jvm.Cond.codeWith ({ cls := "BridgeAuctionLaw", name := "send", desc := "(LBridgeAuction;II[J)I" } : Jvm.MethodName) method_13_code (5 : Nat) (Option.some Jvm.ClassFile.FieldType.int) [((0 : Nat), (10 : Nat), (13 : Nat), (23 : Nat)), ((0 : Nat), (10 : Nat), (17 : Nat), (13 : Nat))]) ∈ lw_all := lw_g (lw_at lw_m6 84 rfl) rfl
theorem q1361 : (Jvm.Cond.methodLink "BridgeAuctionLaw" (48 : Nat) ({ cls := "BridgeAuction", name := "send", desc := "(II)I" } : Jvm.MethodName)) ∈ lw_all := lw_g (lw_at lw_m6 85 rfl) rfl
theorem q1380 : (Jvm.Cond.methodLink "BridgeAuctionLaw" (129 : Nat) ({ cls := "BridgeAuctionLaw", name := "bridge", desc := "(LBridgeAuction;II[J)I" } : Jvm.MethodName)) ∈ lw_all := lw_g (lw_at lw_m6 104 rfl) rfl
theorem q1381 : (Jvm.Cond.static ({ cls := "BridgeAuctionLaw", name := "bridge", desc := "(LBridgeAuction;II[J)I" } : Jvm.MethodName)) ∈ lw_all := lw_g (lw_at lw_m6 105 rfl) rfl
theorem q1382 : (Jvm.Cond.codeWith ({ cls := "BridgeAuctionLaw", name := "bridge", desc := "(LBridgeAuction;II[J)I" } : Jvm.MethodName) method_14_code (5 : Nat) (Option.some Jvm.ClassFile.FieldType.int) [((0 : Nat), (10 : Nat), (13 : Nat), (23 : Nat)), ((0 : Nat), (10 : Nat), (17 : Nat), (13 : Nat))]) ∈ lw_all := lw_g (lw_at lw_m6 106 rfl) rfl
theorem q1383 : (Jvm.Cond.methodLink "BridgeAuctionLaw" (51 : Nat) ({ cls := "BridgeAuction", name := "bridge", desc := "(II)I" } : Jvm.MethodName)) ∈ lw_all := lw_g (lw_at lw_m6 107 rfl) rfl
theorem q1389 : (Jvm.Cond.methodLink "BridgeAuctionLaw" (136 : Nat) ({ cls := "BridgeAuctionLaw", name := "link", desc := "(LBridgeAuction;II[J)I" } : Jvm.MethodName)) ∈ lw_all := lw_g (lw_at lw_m6 113 rfl) rfl
theorem q1390 : (Jvm.Cond.static ({ cls := "BridgeAuctionLaw", name := "link", desc := "(LBridgeAuction;II[J)I" } : Jvm.MethodName)) ∈ lw_all := lw_g (lw_at lw_m6 114 rfl) rfl
theorem q1391 : (Jvm.Cond.codeWith ({ cls := "BridgeAuctionLaw", name := "link", desc := "(LBridgeAuction;II[J)I" } : Jvm.MethodName) method_15_code (5 : Nat) (Option.some Jvm.ClassFile.FieldType.int) [((0 : Nat), (10 : Nat), (13 : Nat), (23 : Nat)), ((0 : Nat), (10 : Nat), (17 : Nat), (13 : Nat))]) ∈ lw_all := lw_g (lw_at lw_m6 115 rfl) rfl
theorem q1392 : (Jvm.Cond.methodLink "BridgeAuctionLaw" (54 : Nat) ({ cls := "BridgeAuction", name := "link", desc := "(II)I" } : Jvm.MethodName)) ∈ lw_all := lw_g (lw_at lw_m6 116 rfl) rfl
theorem q1397 : (Jvm.Cond.methodLink "BridgeAuctionLaw" (139 : Nat) ({ cls := "BridgeAuctionLaw", name := "port", desc := "(LBridgeAuction;IZI[J)I" } : Jvm.MethodName)) ∈ lw_all := lw_g (lw_at lw_m6 121 rfl) rfl
theorem q1398 : (Jvm.Cond.static ({ cls := "BridgeAuctionLaw", name := "port", desc := "(LBridgeAuction;IZI[J)I" } : Jvm.MethodName)) ∈ lw_all := lw_g (lw_at lw_m6 122 rfl) rfl
theorem q1399 : (Jvm.Cond.codeWith ({ cls := "BridgeAuctionLaw", name := "port", desc := "(LBridgeAuction;IZI[J)I" } : Jvm.MethodName) method_16_code (6 : Nat) (Option.some Jvm.ClassFile.FieldType.int) [((0 : Nat), (12 : Nat), (15 : Nat), (23 : Nat)), ((0 : Nat), (12 : Nat), (19 : Nat), (13 : Nat))]) ∈ lw_all := lw_g (lw_at lw_m6 123 rfl) rfl
theorem q1400 : (Jvm.Cond.methodLink "BridgeAuctionLaw" (57 : Nat) ({ cls := "BridgeAuction", name := "port", desc := "(IZI)I" } : Jvm.MethodName)) ∈ lw_all := lw_g (lw_at lw_m6 124 rfl) rfl
theorem q1404 : (Jvm.Cond.methodLink "BridgeAuctionLaw" (143 : Nat) ({ cls := "BridgeAuctionLaw", name := "entry", desc := "(LBridgeAuction;II[J)I" } : Jvm.MethodName)) ∈ lw_all := lw_g (lw_at lw_m6 128 rfl) rfl
theorem q1405 : (Jvm.Cond.static ({ cls := "BridgeAuctionLaw", name := "entry", desc := "(LBridgeAuction;II[J)I" } : Jvm.MethodName)) ∈ lw_all := lw_g (lw_at lw_m6 129 rfl) rfl
theorem q1406 : (Jvm.Cond.codeWith ({ cls := "BridgeAuctionLaw", name := "entry", desc := "(LBridgeAuction;II[J)I" } : Jvm.MethodName) method_17_code (5 : Nat) (Option.some Jvm.ClassFile.FieldType.int) [((0 : Nat), (10 : Nat), (13 : Nat), (23 : Nat))]) ∈ lw_all := lw_g (lw_at lw_m6 130 rfl) rfl
theorem q1407 : (Jvm.Cond.methodLink "BridgeAuctionLaw" (61 : Nat) ({ cls := "BridgeAuction", name := "entry", desc := "(II)I" } : Jvm.MethodName)) ∈ lw_all := lw_g (lw_at lw_m6 131 rfl) rfl
theorem q1414 : (Jvm.Cond.methodLink "BridgeAuctionLaw" (146 : Nat) ({ cls := "BridgeAuctionLaw", name := "tenant", desc := "(LBridgeAuction;II[J)I" } : Jvm.MethodName)) ∈ lw_all := lw_g (lw_at lw_m6 138 rfl) rfl
theorem q1415 : (Jvm.Cond.static ({ cls := "BridgeAuctionLaw", name := "tenant", desc := "(LBridgeAuction;II[J)I" } : Jvm.MethodName)) ∈ lw_all := lw_g (lw_at lw_m6 139 rfl) rfl
theorem q1416 : (Jvm.Cond.codeWith ({ cls := "BridgeAuctionLaw", name := "tenant", desc := "(LBridgeAuction;II[J)I" } : Jvm.MethodName) method_18_code (5 : Nat) (Option.some Jvm.ClassFile.FieldType.int) [((0 : Nat), (10 : Nat), (13 : Nat), (23 : Nat)), ((0 : Nat), (10 : Nat), (17 : Nat), (13 : Nat))]) ∈ lw_all := lw_g (lw_at lw_m6 140 rfl) rfl
theorem q1417 : (Jvm.Cond.methodLink "BridgeAuctionLaw" (64 : Nat) ({ cls := "BridgeAuction", name := "tenant", desc := "(II)I" } : Jvm.MethodName)) ∈ lw_all := lw_g (lw_at lw_m6 141 rfl) rfl
theorem q1421 : (Jvm.Cond.methodLink "BridgeAuctionLaw" (149 : Nat) ({ cls := "BridgeAuctionLaw", name := "bidOf", desc := "(LBridgeAuction;II[J)I" } : Jvm.MethodName)) ∈ lw_all := lw_g (lw_at lw_m6 145 rfl) rfl
theorem q1422 : (Jvm.Cond.static ({ cls := "BridgeAuctionLaw", name := "bidOf", desc := "(LBridgeAuction;II[J)I" } : Jvm.MethodName)) ∈ lw_all := lw_g (lw_at lw_m6 146 rfl) rfl
theorem q1423 : (Jvm.Cond.codeWith ({ cls := "BridgeAuctionLaw", name := "bidOf", desc := "(LBridgeAuction;II[J)I" } : Jvm.MethodName) method_19_code (5 : Nat) (Option.some Jvm.ClassFile.FieldType.int) [((0 : Nat), (10 : Nat), (13 : Nat), (23 : Nat))]) ∈ lw_all := lw_g (lw_at lw_m6 147 rfl) rfl
theorem q1424 : (Jvm.Cond.methodLink "BridgeAuctionLaw" (67 : Nat) ({ cls := "BridgeAuction", name := "bidOf", desc := "(II)I" } : Jvm.MethodName)) ∈ lw_all := lw_g (lw_at lw_m6 148 rfl) rfl
theorem q1430 : (Jvm.Cond.methodLink "BridgeAuctionLaw" (152 : Nat) ({ cls := "BridgeAuctionLaw", name := "count", desc := "(LBridgeAuction;I[J)I" } : Jvm.MethodName)) ∈ lw_all := lw_g (lw_at lw_m6 154 rfl) rfl
theorem q1431 : (Jvm.Cond.static ({ cls := "BridgeAuctionLaw", name := "count", desc := "(LBridgeAuction;I[J)I" } : Jvm.MethodName)) ∈ lw_all := lw_g (lw_at lw_m6 155 rfl) rfl
theorem q1432 : (Jvm.Cond.codeWith ({ cls := "BridgeAuctionLaw", name := "count", desc := "(LBridgeAuction;I[J)I" } : Jvm.MethodName) method_20_code (4 : Nat) (Option.some Jvm.ClassFile.FieldType.int) [((0 : Nat), (9 : Nat), (12 : Nat), (13 : Nat))]) ∈ lw_all := lw_g (lw_at lw_m6 156 rfl) rfl
theorem q1433 : (Jvm.Cond.methodLink "BridgeAuctionLaw" (70 : Nat) ({ cls := "BridgeAuction", name := "count", desc := "(I)I" } : Jvm.MethodName)) ∈ lw_all := lw_g (lw_at lw_m6 157 rfl) rfl
theorem q1438 : (Jvm.Cond.methodLink "BridgeAuctionLaw" (160 : Nat) ({ cls := "BridgeAuctionLaw", name := "type", desc := "(LBridgeAuction;I[J)I" } : Jvm.MethodName)) ∈ lw_all := lw_g (lw_at lw_m6 162 rfl) rfl
theorem q1439 : (Jvm.Cond.static ({ cls := "BridgeAuctionLaw", name := "type", desc := "(LBridgeAuction;I[J)I" } : Jvm.MethodName)) ∈ lw_all := lw_g (lw_at lw_m6 163 rfl) rfl
theorem q1440 : (Jvm.Cond.codeWith ({ cls := "BridgeAuctionLaw", name := "type", desc := "(LBridgeAuction;I[J)I" } : Jvm.MethodName) method_21_code (4 : Nat) (Option.some Jvm.ClassFile.FieldType.int) [((0 : Nat), (9 : Nat), (12 : Nat), (13 : Nat)), ((0 : Nat), (9 : Nat), (15 : Nat), (28 : Nat))]) ∈ lw_all := lw_g (lw_at lw_m6 164 rfl) rfl
theorem q1441 : (Jvm.Cond.methodLink "BridgeAuctionLaw" (73 : Nat) ({ cls := "BridgeAuction", name := "type", desc := "(I)I" } : Jvm.MethodName)) ∈ lw_all := lw_g (lw_at lw_m6 165 rfl) rfl
theorem q1448 : (Jvm.Cond.methodLink "BridgeAuctionLaw" (171 : Nat) ({ cls := "BridgeAuctionLaw", name := "undo", desc := "(LBridgeAuction;[J)I" } : Jvm.MethodName)) ∈ lw_all := lw_g (lw_at lw_m6 172 rfl) rfl
theorem q1449 : (Jvm.Cond.static ({ cls := "BridgeAuctionLaw", name := "undo", desc := "(LBridgeAuction;[J)I" } : Jvm.MethodName)) ∈ lw_all := lw_g (lw_at lw_m6 173 rfl) rfl
theorem q1450 : (Jvm.Cond.codeWith ({ cls := "BridgeAuctionLaw", name := "undo", desc := "(LBridgeAuction;[J)I" } : Jvm.MethodName) method_22_code (3 : Nat) (Option.some Jvm.ClassFile.FieldType.int) [((0 : Nat), (8 : Nat), (11 : Nat), (28 : Nat))]) ∈ lw_all := lw_g (lw_at lw_m6 174 rfl) rfl
theorem q1451 : (Jvm.Cond.methodLink "BridgeAuctionLaw" (76 : Nat) ({ cls := "BridgeAuction", name := "undo", desc := "()I" } : Jvm.MethodName)) ∈ lw_all := lw_g (lw_at lw_m6 175 rfl) rfl
theorem q1456 : (Jvm.Cond.classLink "BridgeAuctionLaw" (81 : Nat) "BridgeAuctionModel") ∈ lw_all := lw_g (lw_at lw_m6 180 rfl) rfl
theorem q1458 : (Jvm.Cond.methodLink "BridgeAuctionLaw" (83 : Nat) ({ cls := "BridgeAuctionModel", name := "<init>", desc := "()V" } : Jvm.MethodName)) ∈ lw_all := lw_g (lw_at lw_m6 182 rfl) rfl
theorem q1527 : (Jvm.Cond.methodLink "BridgeAuctionLaw" (90 : Nat) ({ cls := "BridgeAuctionModel", name := "thrown", desc := "()I" } : Jvm.MethodName)) ∈ lw_all := lw_g (lw_at lw_m7 11 rfl) rfl
theorem q1531 : (Jvm.Cond.methodLink "BridgeAuctionLaw" (89 : Nat) ({ cls := "BridgeAuctionModel", name := "setBridges", desc := "(I)I" } : Jvm.MethodName)) ∈ lw_all := lw_g (lw_at lw_m7 15 rfl) rfl
theorem q1551 : (Jvm.Cond.methodLink "BridgeAuctionLaw" (96 : Nat) ({ cls := "BridgeAuctionModel", name := "setTimes", desc := "(III)I" } : Jvm.MethodName)) ∈ lw_all := lw_g (lw_at lw_m7 35 rfl) rfl
theorem q1555 : (Jvm.Cond.methodLink "BridgeAuctionLaw" (100 : Nat) ({ cls := "BridgeAuctionModel", name := "setPriority", desc := "(II)I" } : Jvm.MethodName)) ∈ lw_all := lw_g (lw_at lw_m7 39 rfl) rfl
theorem q1571 : (Jvm.Cond.methodLink "BridgeAuctionLaw" (103 : Nat) ({ cls := "BridgeAuctionModel", name := "addLink", desc := "(III)I" } : Jvm.MethodName)) ∈ lw_all := lw_g (lw_at lw_m7 55 rfl) rfl
theorem q1583 : (Jvm.Cond.methodLink "BridgeAuctionLaw" (106 : Nat) ({ cls := "BridgeAuctionModel", name := "fail", desc := "(I)I" } : Jvm.MethodName)) ∈ lw_all := lw_g (lw_at lw_m7 67 rfl) rfl
theorem q1599 : (Jvm.Cond.methodLink "BridgeAuctionLaw" (109 : Nat) ({ cls := "BridgeAuctionModel", name := "fix", desc := "(I)I" } : Jvm.MethodName)) ∈ lw_all := lw_g (lw_at lw_m7 83 rfl) rfl
theorem q1607 : (Jvm.Cond.methodLink "BridgeAuctionLaw" (112 : Nat) ({ cls := "BridgeAuctionModel", name := "moveHost", desc := "(II)I" } : Jvm.MethodName)) ∈ lw_all := lw_g (lw_at lw_m7 91 rfl) rfl
theorem q1618 : (Jvm.Cond.methodLink "BridgeAuctionLaw" (115 : Nat) ({ cls := "BridgeAuctionModel", name := "bid", desc := "(III)I" } : Jvm.MethodName)) ∈ lw_all := lw_g (lw_at lw_m7 102 rfl) rfl
theorem q1629 : (Jvm.Cond.methodLink "BridgeAuctionLaw" (118 : Nat) ({ cls := "BridgeAuctionModel", name := "grant", desc := "(II)I" } : Jvm.MethodName)) ∈ lw_all := lw_g (lw_at lw_m7 113 rfl) rfl
theorem q1634 : (Jvm.Cond.methodLink "BridgeAuctionLaw" (121 : Nat) ({ cls := "BridgeAuctionModel", name := "tick", desc := "(I)I" } : Jvm.MethodName)) ∈ lw_all := lw_g (lw_at lw_m7 118 rfl) rfl
theorem q1702 : (Jvm.Cond.methodLink "BridgeAuctionLaw" (125 : Nat) ({ cls := "BridgeAuctionModel", name := "time", desc := "()I" } : Jvm.MethodName)) ∈ lw_all := lw_g (lw_at lw_m7 186 rfl) rfl
theorem q1706 : (Jvm.Cond.methodLink "BridgeAuctionLaw" (128 : Nat) ({ cls := "BridgeAuctionModel", name := "send", desc := "(II)I" } : Jvm.MethodName)) ∈ lw_all := lw_g (lw_at lw_m7 190 rfl) rfl
theorem q1718 : (Jvm.Cond.methodLink "BridgeAuctionLaw" (131 : Nat) ({ cls := "BridgeAuctionModel", name := "bridge", desc := "(II)I" } : Jvm.MethodName)) ∈ lw_all := lw_g (lw_at lw_m7 202 rfl) rfl
theorem q1730 : (Jvm.Cond.methodLink "BridgeAuctionLaw" (135 : Nat) ({ cls := "BridgeAuctionModel", name := "links", desc := "()I" } : Jvm.MethodName)) ∈ lw_all := lw_g (lw_at lw_m7 214 rfl) rfl
theorem q1734 : (Jvm.Cond.methodLink "BridgeAuctionLaw" (138 : Nat) ({ cls := "BridgeAuctionModel", name := "link", desc := "(II)I" } : Jvm.MethodName)) ∈ lw_all := lw_g (lw_at lw_m7 218 rfl) rfl
theorem q1742 : (Jvm.Cond.methodLink "BridgeAuctionLaw" (142 : Nat) ({ cls := "BridgeAuctionModel", name := "port", desc := "(IZI)I" } : Jvm.MethodName)) ∈ lw_all := lw_g (lw_at lw_m7 226 rfl) rfl
theorem q1746 : (Jvm.Cond.methodLink "BridgeAuctionLaw" (145 : Nat) ({ cls := "BridgeAuctionModel", name := "entry", desc := "(II)I" } : Jvm.MethodName)) ∈ lw_all := lw_g (lw_at lw_m7 230 rfl) rfl
theorem q1750 : (Jvm.Cond.methodLink "BridgeAuctionLaw" (148 : Nat) ({ cls := "BridgeAuctionModel", name := "tenant", desc := "(II)I" } : Jvm.MethodName)) ∈ lw_all := lw_g (lw_at lw_m7 234 rfl) rfl
theorem q1762 : (Jvm.Cond.methodLink "BridgeAuctionLaw" (151 : Nat) ({ cls := "BridgeAuctionModel", name := "bidOf", desc := "(II)I" } : Jvm.MethodName)) ∈ lw_all := lw_g (lw_at lw_m8 6 rfl) rfl
theorem q1766 : (Jvm.Cond.methodLink "BridgeAuctionLaw" (154 : Nat) ({ cls := "BridgeAuctionModel", name := "count", desc := "(I)I" } : Jvm.MethodName)) ∈ lw_all := lw_g (lw_at lw_m8 10 rfl) rfl
theorem q1782 : (Jvm.Cond.methodLink "BridgeAuctionLaw" (159 : Nat) ({ cls := "BridgeAuctionModel", name := "isForest", desc := "()Z" } : Jvm.MethodName)) ∈ lw_all := lw_g (lw_at lw_m8 26 rfl) rfl
theorem q1790 : (Jvm.Cond.methodLink "BridgeAuctionLaw" (162 : Nat) ({ cls := "BridgeAuctionModel", name := "type", desc := "(I)I" } : Jvm.MethodName)) ∈ lw_all := lw_g (lw_at lw_m8 34 rfl) rfl
theorem q1794 : (Jvm.Cond.methodLink "BridgeAuctionLaw" (166 : Nat) ({ cls := "BridgeAuctionModel", name := "clearScript", desc := "()I" } : Jvm.MethodName)) ∈ lw_all := lw_g (lw_at lw_m8 38 rfl) rfl
theorem q1798 : (Jvm.Cond.methodLink "BridgeAuctionLaw" (170 : Nat) ({ cls := "BridgeAuctionModel", name := "run", desc := "()I" } : Jvm.MethodName)) ∈ lw_all := lw_g (lw_at lw_m8 42 rfl) rfl
theorem q1835 : (Jvm.Cond.methodLink "BridgeAuctionLaw" (174 : Nat) ({ cls := "BridgeAuctionModel", name := "undo", desc := "()I" } : Jvm.MethodName)) ∈ lw_all := lw_g (lw_at lw_m8 79 rfl) rfl
theorem q1839 : (Jvm.Cond.methodLink "BridgeAuctionLaw" (179 : Nat) ({ cls := "BridgeAuctionModel", name := "digest", desc := "()J" } : Jvm.MethodName)) ∈ lw_all := lw_g (lw_at lw_m8 83 rfl) rfl
theorem q77 : (Jvm.Cond.initialized "BridgeAuction") ∈ lw_all := lw_g (lw_at lw_m1 1 rfl) rfl
theorem q110 : (Jvm.Cond.instantiable "BridgeAuction" (5 : Nat)) ∈ lw_all := lw_g (lw_at lw_m1 34 rfl) rfl
theorem q112 : (Jvm.Cond.instanceMethod ({ cls := "BridgeAuction", name := "<init>", desc := "()V" } : Jvm.MethodName)) ∈ lw_all := lw_g (lw_at lw_m1 36 rfl) rfl
theorem q113 : (Jvm.Cond.code ({ cls := "BridgeAuction", name := "<init>", desc := "()V" } : Jvm.MethodName) prog_1_method_7_code (1 : Nat) (Option.none : Option Jvm.ClassFile.FieldType)) ∈ lw_all := lw_g (lw_at lw_m1 37 rfl) rfl
theorem q114 : (Jvm.Cond.methodLink "BridgeAuction" (47 : Nat) ({ cls := "java/lang/Object", name := "<init>", desc := "()V" } : Jvm.MethodName)) ∈ lw_all := lw_g (lw_at lw_m1 38 rfl) rfl
theorem q117 : (Jvm.Cond.methodLink "BridgeAuction" (54 : Nat) ({ cls := "BridgeAuction$Network", name := "begun", desc := "(I)LBridgeAuction$Network;" } : Jvm.MethodName)) ∈ lw_all := lw_g (lw_at lw_m1 41 rfl) rfl
theorem q153 : (Jvm.Cond.fieldLinkNest "BridgeAuction" (105 : Nat) "BridgeAuction$Network" "bridges" "Ljava/util/ArrayList;" "BridgeAuction") ∈ lw_tbl := lw_at lw_m1 77 rfl
theorem q155 : (Jvm.Cond.fieldLinkNest "BridgeAuction" (190 : Nat) "BridgeAuction$Network" "links" "Ljava/util/ArrayList;" "BridgeAuction") ∈ lw_tbl := lw_at lw_m1 79 rfl
theorem q157 : (Jvm.Cond.fieldLinkNest "BridgeAuction" (289 : Nat) "BridgeAuction$Network" "places" "[I" "BridgeAuction") ∈ lw_tbl := lw_at lw_m1 81 rfl
theorem q159 : (Jvm.Cond.fieldLinkNest "BridgeAuction" (162 : Nat) "BridgeAuction$Network" "credits" "[I" "BridgeAuction") ∈ lw_tbl := lw_at lw_m1 83 rfl
theorem q163 : (Jvm.Cond.fieldLinkNest "BridgeAuction" (173 : Nat) "BridgeAuction$Network" "time" "I" "BridgeAuction") ∈ lw_tbl := lw_at lw_m1 87 rfl
theorem q165 : (Jvm.Cond.fieldLinkNest "BridgeAuction" (96 : Nat) "BridgeAuction$Network" "delay" "I" "BridgeAuction") ∈ lw_tbl := lw_at lw_m1 89 rfl
theorem q167 : (Jvm.Cond.fieldLinkNest "BridgeAuction" (99 : Nat) "BridgeAuction$Network" "interval" "I" "BridgeAuction") ∈ lw_tbl := lw_at lw_m1 91 rfl
theorem q169 : (Jvm.Cond.fieldLinkNest "BridgeAuction" (102 : Nat) "BridgeAuction$Network" "hysteresis" "I" "BridgeAuction") ∈ lw_tbl := lw_at lw_m1 93 rfl
theorem q311 : (Jvm.Cond.selects "BridgeAuction" ({ cls := "java/lang/Object", name := "getClass", desc := "()Ljava/lang/Class;" } : Jvm.MethodName) ({ cls := "java/lang/Object", name := "getClass", desc := "()Ljava/lang/Class;" } : Jvm.MethodName)) ∈ lw_all := lw_g (lw_at lw_m1 235 rfl) rfl
theorem q343 : (Jvm.Cond.classLink "BridgeAuction" (55 : Nat) "BridgeAuction$Network") ∈ lw_all := lw_g (lw_at lw_m2 27 rfl) rfl
theorem q345 : (Jvm.Cond.fieldLink "BridgeAuction" (60 : Nat) "BridgeAuction" "current" "LBridgeAuction$Network;") ∈ lw_all := lw_g (lw_at lw_m2 29 rfl) rfl
theorem q346 : (Jvm.Cond.fieldLink "BridgeAuction" (64 : Nat) "BridgeAuction" "saved" "[LBridgeAuction$Network;") ∈ lw_all := lw_g (lw_at lw_m2 30 rfl) rfl
theorem q347 : (Jvm.Cond.fieldLink "BridgeAuction" (72 : Nat) "BridgeAuction" "depth" "I") ∈ lw_all := lw_g (lw_at lw_m2 31 rfl) rfl
theorem q349 : (Jvm.Cond.fieldLink "BridgeAuction" (68 : Nat) "BridgeAuction" "script" "[B") ∈ lw_all := lw_g (lw_at lw_m2 33 rfl) rfl
theorem q351 : (Jvm.Cond.fieldLink "BridgeAuction" (244 : Nat) "BridgeAuction" "scriptLength" "I") ∈ lw_all := lw_g (lw_at lw_m2 35 rfl) rfl
theorem q352 : (Jvm.Cond.lays "BridgeAuction" "BridgeAuction" "current" "LBridgeAuction$Network;") ∈ lw_all := lw_g (lw_at lw_m2 36 rfl) rfl
theorem q353 : (Jvm.Cond.soleField "BridgeAuction" "current") ∈ lw_all := lw_g (lw_at lw_m2 37 rfl) rfl
theorem q354 : (Jvm.Cond.laysFinal "BridgeAuction" "BridgeAuction" "saved" "[LBridgeAuction$Network;") ∈ lw_all := lw_g (lw_at lw_m2 38 rfl) rfl
theorem q355 : (Jvm.Cond.soleField "BridgeAuction" "saved") ∈ lw_all := lw_g (lw_at lw_m2 39 rfl) rfl
theorem q356 : (Jvm.Cond.lays "BridgeAuction" "BridgeAuction" "depth" "I") ∈ lw_all := lw_g (lw_at lw_m2 40 rfl) rfl
theorem q357 : (Jvm.Cond.soleField "BridgeAuction" "depth") ∈ lw_all := lw_g (lw_at lw_m2 41 rfl) rfl
theorem q358 : (Jvm.Cond.laysFinal "BridgeAuction" "BridgeAuction" "script" "[B") ∈ lw_all := lw_g (lw_at lw_m2 42 rfl) rfl
theorem q359 : (Jvm.Cond.soleField "BridgeAuction" "script") ∈ lw_all := lw_g (lw_at lw_m2 43 rfl) rfl
theorem q360 : (Jvm.Cond.lays "BridgeAuction" "BridgeAuction" "scriptLength" "I") ∈ lw_all := lw_g (lw_at lw_m2 44 rfl) rfl
theorem q361 : (Jvm.Cond.soleField "BridgeAuction" "scriptLength") ∈ lw_all := lw_g (lw_at lw_m2 45 rfl) rfl
theorem q362 : (Jvm.Cond.superclass "BridgeAuction" "java/lang/Object") ∈ lw_all := lw_g (lw_at lw_m2 46 rfl) rfl
theorem q365 : (Jvm.Cond.instanceMethod ({ cls := "BridgeAuction", name := "time", desc := "()I" } : Jvm.MethodName)) ∈ lw_all := lw_g (lw_at lw_m2 49 rfl) rfl
theorem q366 : (Jvm.Cond.selects "BridgeAuction" ({ cls := "BridgeAuction", name := "time", desc := "()I" } : Jvm.MethodName) ({ cls := "BridgeAuction", name := "time", desc := "()I" } : Jvm.MethodName)) ∈ lw_all := lw_g (lw_at lw_m2 50 rfl) rfl
theorem q367 : (Jvm.Cond.code ({ cls := "BridgeAuction", name := "time", desc := "()I" } : Jvm.MethodName) prog_1_method_20_code (1 : Nat) (Option.some Jvm.ClassFile.FieldType.int)) ∈ lw_all := lw_g (lw_at lw_m2 51 rfl) rfl
theorem q369 : (Jvm.Cond.instanceMethod ({ cls := "BridgeAuction", name := "links", desc := "()I" } : Jvm.MethodName)) ∈ lw_all := lw_g (lw_at lw_m2 53 rfl) rfl
theorem q370 : (Jvm.Cond.selects "BridgeAuction" ({ cls := "BridgeAuction", name := "links", desc := "()I" } : Jvm.MethodName) ({ cls := "BridgeAuction", name := "links", desc := "()I" } : Jvm.MethodName)) ∈ lw_all := lw_g (lw_at lw_m2 54 rfl) rfl
theorem q371 : (Jvm.Cond.code ({ cls := "BridgeAuction", name := "links", desc := "()I" } : Jvm.MethodName) prog_1_method_23_code (1 : Nat) (Option.some Jvm.ClassFile.FieldType.int)) ∈ lw_all := lw_g (lw_at lw_m2 55 rfl) rfl
theorem q372 : (Jvm.Cond.methodLink "BridgeAuction" (108 : Nat) ({ cls := "java/util/ArrayList", name := "size", desc := "()I" } : Jvm.MethodName)) ∈ lw_all := lw_g (lw_at lw_m2 56 rfl) rfl
theorem q377 : (Jvm.Cond.instanceMethod ({ cls := "BridgeAuction", name := "isForest", desc := "()Z" } : Jvm.MethodName)) ∈ lw_all := lw_g (lw_at lw_m2 61 rfl) rfl
theorem q378 : (Jvm.Cond.selects "BridgeAuction" ({ cls := "BridgeAuction", name := "isForest", desc := "()Z" } : Jvm.MethodName) ({ cls := "BridgeAuction", name := "isForest", desc := "()Z" } : Jvm.MethodName)) ∈ lw_all := lw_g (lw_at lw_m2 62 rfl) rfl
theorem q379 : (Jvm.Cond.code ({ cls := "BridgeAuction", name := "isForest", desc := "()Z" } : Jvm.MethodName) prog_1_method_30_code (1 : Nat) (Option.some Jvm.ClassFile.FieldType.boolean)) ∈ lw_all := lw_g (lw_at lw_m2 63 rfl) rfl
theorem q380 : (Jvm.Cond.methodLink "BridgeAuction" (236 : Nat) ({ cls := "BridgeAuction$Network", name := "isForest", desc := "()Z" } : Jvm.MethodName)) ∈ lw_all := lw_g (lw_at lw_m2 64 rfl) rfl
theorem q414 : (Jvm.Cond.instanceMethod ({ cls := "BridgeAuction", name := "clearScript", desc := "()I" } : Jvm.MethodName)) ∈ lw_all := lw_g (lw_at lw_m2 98 rfl) rfl
theorem q415 : (Jvm.Cond.selects "BridgeAuction" ({ cls := "BridgeAuction", name := "clearScript", desc := "()I" } : Jvm.MethodName) ({ cls := "BridgeAuction", name := "clearScript", desc := "()I" } : Jvm.MethodName)) ∈ lw_all := lw_g (lw_at lw_m2 99 rfl) rfl
theorem q416 : (Jvm.Cond.code ({ cls := "BridgeAuction", name := "clearScript", desc := "()I" } : Jvm.MethodName) prog_1_method_32_code (2 : Nat) (Option.some Jvm.ClassFile.FieldType.int)) ∈ lw_all := lw_g (lw_at lw_m2 100 rfl) rfl
theorem q418 : (Jvm.Cond.instanceMethod ({ cls := "BridgeAuction", name := "run", desc := "()I" } : Jvm.MethodName)) ∈ lw_all := lw_g (lw_at lw_m2 102 rfl) rfl
theorem q419 : (Jvm.Cond.selects "BridgeAuction" ({ cls := "BridgeAuction", name := "run", desc := "()I" } : Jvm.MethodName) ({ cls := "BridgeAuction", name := "run", desc := "()I" } : Jvm.MethodName)) ∈ lw_all := lw_g (lw_at lw_m2 103 rfl) rfl
theorem q420 : (Jvm.Cond.code ({ cls := "BridgeAuction", name := "run", desc := "()I" } : Jvm.MethodName) prog_1_method_34_code (4 : Nat) (Option.some Jvm.ClassFile.FieldType.int)) ∈ lw_all := lw_g (lw_at lw_m2 104 rfl) rfl
theorem q421 : (Jvm.Cond.classLink "BridgeAuction" (248 : Nat) "BridgeAuction$Reader") ∈ lw_all := lw_g (lw_at lw_m2 105 rfl) rfl
theorem q423 : (Jvm.Cond.methodLinkNest "BridgeAuction" (250 : Nat) ({ cls := "BridgeAuction$Reader", name := "<init>", desc := "(LBridgeAuction;)V" } : Jvm.MethodName) "BridgeAuction") ∈ lw_tbl := lw_at lw_m2 107 rfl
theorem q429 : (Jvm.Cond.fieldLinkNest "BridgeAuction" (268 : Nat) "BridgeAuction$Reader" "fault" "I" "BridgeAuction") ∈ lw_tbl := lw_at lw_m2 113 rfl
theorem q431 : (Jvm.Cond.fieldLinkNest "BridgeAuction" (256 : Nat) "BridgeAuction$Reader" "command" "LBridgeAuction$Command;" "BridgeAuction") ∈ lw_tbl := lw_at lw_m2 115 rfl
theorem q433 : (Jvm.Cond.fieldLinkNest "BridgeAuction" (260 : Nat) "BridgeAuction$Reader" "numbers" "[I" "BridgeAuction") ∈ lw_tbl := lw_at lw_m2 117 rfl
theorem q446 : (Jvm.Cond.methodLink "BridgeAuction" (253 : Nat) ({ cls := "BridgeAuction$Reader", name := "next", desc := "()Z" } : Jvm.MethodName)) ∈ lw_all := lw_g (lw_at lw_m2 130 rfl) rfl
theorem q459 : (Jvm.Cond.static ({ cls := "BridgeAuction", name := "inRange", desc := "(JJJ)Z" } : Jvm.MethodName)) ∈ lw_all := lw_g (lw_at lw_m2 143 rfl) rfl
theorem q460 : (Jvm.Cond.code ({ cls := "BridgeAuction", name := "inRange", desc := "(JJJ)Z" } : Jvm.MethodName) prog_1_method_1_code (6 : Nat) (Option.some Jvm.ClassFile.FieldType.boolean)) ∈ lw_all := lw_g (lw_at lw_m2 144 rfl) rfl
theorem q780 : (Jvm.Cond.static ({ cls := "BridgeAuction", name := "commandOf", desc := "(Ljava/lang/String;)LBridgeAuction$Command;" } : Jvm.MethodName)) ∈ lw_all := lw_g (lw_at lw_m3 224 rfl) rfl
theorem q781 : (Jvm.Cond.code ({ cls := "BridgeAuction", name := "commandOf", desc := "(Ljava/lang/String;)LBridgeAuction$Command;" } : Jvm.MethodName) prog_1_method_5_code (3 : Nat) (Option.some (Jvm.ClassFile.FieldType.object "BridgeAuction$Command"))) ∈ lw_all := lw_g (lw_at lw_m3 225 rfl) rfl
theorem q782 : (Jvm.Cond.methodLink "BridgeAuction" (13 : Nat) ({ cls := "java/lang/String", name := "hashCode", desc := "()I" } : Jvm.MethodName)) ∈ lw_all := lw_g (lw_at lw_m3 226 rfl) rfl
theorem q843 : (Jvm.Cond.stringRef "BridgeAuction" (19 : Nat) "link") ∈ lw_tbl := lw_at lw_m4 47 rfl
theorem q844 : (Jvm.Cond.methodLink "BridgeAuction" (21 : Nat) ({ cls := "java/lang/String", name := "equals", desc := "(Ljava/lang/Object;)Z" } : Jvm.MethodName)) ∈ lw_all := lw_g (lw_at lw_m4 48 rfl) rfl
theorem q852 : (Jvm.Cond.stringRef "BridgeAuction" (25 : Nat) "bid") ∈ lw_tbl := lw_at lw_m4 56 rfl
theorem q853 : (Jvm.Cond.stringRef "BridgeAuction" (27 : Nat) "fail") ∈ lw_tbl := lw_at lw_m4 57 rfl
theorem q854 : (Jvm.Cond.stringRef "BridgeAuction" (29 : Nat) "fix") ∈ lw_tbl := lw_at lw_m4 58 rfl
theorem q855 : (Jvm.Cond.stringRef "BridgeAuction" (31 : Nat) "prio") ∈ lw_tbl := lw_at lw_m4 59 rfl
theorem q856 : (Jvm.Cond.stringRef "BridgeAuction" (33 : Nat) "host") ∈ lw_tbl := lw_at lw_m4 60 rfl
theorem q857 : (Jvm.Cond.stringRef "BridgeAuction" (35 : Nat) "tick") ∈ lw_tbl := lw_at lw_m4 61 rfl
theorem q858 : (Jvm.Cond.static ({ cls := "BridgeAuction", name := "lambda$commandOf$0", desc := "(LBridgeAuction$Network;III)I" } : Jvm.MethodName)) ∈ lw_all := lw_g (lw_at lw_m4 62 rfl) rfl
theorem q859 : (Jvm.Cond.code ({ cls := "BridgeAuction", name := "lambda$commandOf$0", desc := "(LBridgeAuction$Network;III)I" } : Jvm.MethodName) prog_1_method_45_code (4 : Nat) (Option.some Jvm.ClassFile.FieldType.int)) ∈ lw_all := lw_g (lw_at lw_m4 63 rfl) rfl
theorem q860 : (Jvm.Cond.methodLink "BridgeAuction" (133 : Nat) ({ cls := "BridgeAuction$Network", name := "addLink", desc := "(III)I" } : Jvm.MethodName)) ∈ lw_all := lw_g (lw_at lw_m4 64 rfl) rfl
theorem q871 : (Jvm.Cond.static ({ cls := "BridgeAuction", name := "requireIndex", desc := "(ZLjava/lang/String;)V" } : Jvm.MethodName)) ∈ lw_all := lw_g (lw_at lw_m4 75 rfl) rfl
theorem q872 : (Jvm.Cond.code ({ cls := "BridgeAuction", name := "requireIndex", desc := "(ZLjava/lang/String;)V" } : Jvm.MethodName) prog_1_method_2_code (2 : Nat) (Option.none : Option Jvm.ClassFile.FieldType)) ∈ lw_all := lw_g (lw_at lw_m4 76 rfl) rfl
theorem q873 : (Jvm.Cond.classLink "BridgeAuction" (1 : Nat) "java/lang/IndexOutOfBoundsException") ∈ lw_all := lw_g (lw_at lw_m4 77 rfl) rfl
theorem q882 : (Jvm.Cond.methodLink "BridgeAuction" (3 : Nat) ({ cls := "java/lang/IndexOutOfBoundsException", name := "<init>", desc := "(Ljava/lang/String;)V" } : Jvm.MethodName)) ∈ lw_all := lw_g (lw_at lw_m4 86 rfl) rfl
theorem q891 : (Jvm.Cond.static ({ cls := "BridgeAuction", name := "requireArgument", desc := "(ZLjava/lang/String;)V" } : Jvm.MethodName)) ∈ lw_all := lw_g (lw_at lw_m4 95 rfl) rfl
theorem q892 : (Jvm.Cond.code ({ cls := "BridgeAuction", name := "requireArgument", desc := "(ZLjava/lang/String;)V" } : Jvm.MethodName) prog_1_method_3_code (2 : Nat) (Option.none : Option Jvm.ClassFile.FieldType)) ∈ lw_all := lw_g (lw_at lw_m4 96 rfl) rfl
theorem q893 : (Jvm.Cond.classLink "BridgeAuction" (7 : Nat) "java/lang/IllegalArgumentException") ∈ lw_all := lw_g (lw_at lw_m4 97 rfl) rfl
theorem q894 : (Jvm.Cond.methodLink "BridgeAuction" (9 : Nat) ({ cls := "java/lang/IllegalArgumentException", name := "<init>", desc := "(Ljava/lang/String;)V" } : Jvm.MethodName)) ∈ lw_all := lw_g (lw_at lw_m4 98 rfl) rfl
theorem q897 : (Jvm.Cond.static ({ cls := "BridgeAuction", name := "requireState", desc := "(ZLjava/lang/String;)V" } : Jvm.MethodName)) ∈ lw_all := lw_g (lw_at lw_m4 101 rfl) rfl
theorem q898 : (Jvm.Cond.code ({ cls := "BridgeAuction", name := "requireState", desc := "(ZLjava/lang/String;)V" } : Jvm.MethodName) prog_1_method_4_code (2 : Nat) (Option.none : Option Jvm.ClassFile.FieldType)) ∈ lw_all := lw_g (lw_at lw_m4 102 rfl) rfl
theorem q899 : (Jvm.Cond.classLink "BridgeAuction" (10 : Nat) "java/lang/IllegalStateException") ∈ lw_all := lw_g (lw_at lw_m4 103 rfl) rfl
theorem q908 : (Jvm.Cond.methodLink "BridgeAuction" (12 : Nat) ({ cls := "java/lang/IllegalStateException", name := "<init>", desc := "(Ljava/lang/String;)V" } : Jvm.MethodName)) ∈ lw_all := lw_g (lw_at lw_m4 112 rfl) rfl
theorem q954 : (Jvm.Cond.fieldLinkNest "BridgeAuction" (228 : Nat) "BridgeAuction$Link" "bids" "[I" "BridgeAuction") ∈ lw_tbl := lw_at lw_m4 158 rfl
theorem q957 : (Jvm.Cond.fieldLinkNest "BridgeAuction" (203 : Nat) "BridgeAuction$Link" "lowPort" "LBridgeAuction$Port;" "BridgeAuction") ∈ lw_tbl := lw_at lw_m4 161 rfl
theorem q960 : (Jvm.Cond.fieldLinkNest "BridgeAuction" (199 : Nat) "BridgeAuction$Link" "highPort" "LBridgeAuction$Port;" "BridgeAuction") ∈ lw_tbl := lw_at lw_m4 164 rfl
theorem q984 : (Jvm.Cond.static ({ cls := "BridgeAuction", name := "lambda$commandOf$1", desc := "(LBridgeAuction$Network;III)I" } : Jvm.MethodName)) ∈ lw_all := lw_g (lw_at lw_m4 188 rfl) rfl
theorem q985 : (Jvm.Cond.code ({ cls := "BridgeAuction", name := "lambda$commandOf$1", desc := "(LBridgeAuction$Network;III)I" } : Jvm.MethodName) prog_1_method_44_code (4 : Nat) (Option.some Jvm.ClassFile.FieldType.int)) ∈ lw_all := lw_g (lw_at lw_m4 189 rfl) rfl
theorem q986 : (Jvm.Cond.methodLink "BridgeAuction" (145 : Nat) ({ cls := "BridgeAuction$Network", name := "bid", desc := "(III)I" } : Jvm.MethodName)) ∈ lw_all := lw_g (lw_at lw_m4 190 rfl) rfl
theorem q998 : (Jvm.Cond.static ({ cls := "BridgeAuction", name := "lambda$commandOf$2", desc := "(LBridgeAuction$Network;III)I" } : Jvm.MethodName)) ∈ lw_all := lw_g (lw_at lw_m4 202 rfl) rfl
theorem q999 : (Jvm.Cond.code ({ cls := "BridgeAuction", name := "lambda$commandOf$2", desc := "(LBridgeAuction$Network;III)I" } : Jvm.MethodName) prog_1_method_43_code (4 : Nat) (Option.some Jvm.ClassFile.FieldType.int)) ∈ lw_all := lw_g (lw_at lw_m4 203 rfl) rfl
theorem q1000 : (Jvm.Cond.methodLink "BridgeAuction" (137 : Nat) ({ cls := "BridgeAuction$Network", name := "fail", desc := "(I)I" } : Jvm.MethodName)) ∈ lw_all := lw_g (lw_at lw_m4 204 rfl) rfl
theorem q1009 : (Jvm.Cond.static ({ cls := "BridgeAuction", name := "lambda$commandOf$3", desc := "(LBridgeAuction$Network;III)I" } : Jvm.MethodName)) ∈ lw_all := lw_g (lw_at lw_m4 213 rfl) rfl
theorem q1010 : (Jvm.Cond.code ({ cls := "BridgeAuction", name := "lambda$commandOf$3", desc := "(LBridgeAuction$Network;III)I" } : Jvm.MethodName) prog_1_method_42_code (4 : Nat) (Option.some Jvm.ClassFile.FieldType.int)) ∈ lw_all := lw_g (lw_at lw_m4 214 rfl) rfl
theorem q1011 : (Jvm.Cond.methodLink "BridgeAuction" (140 : Nat) ({ cls := "BridgeAuction$Network", name := "fix", desc := "(I)I" } : Jvm.MethodName)) ∈ lw_all := lw_g (lw_at lw_m4 215 rfl) rfl
theorem q1016 : (Jvm.Cond.static ({ cls := "BridgeAuction", name := "lambda$commandOf$4", desc := "(LBridgeAuction$Network;III)I" } : Jvm.MethodName)) ∈ lw_all := lw_g (lw_at lw_m4 220 rfl) rfl
theorem q1017 : (Jvm.Cond.code ({ cls := "BridgeAuction", name := "lambda$commandOf$4", desc := "(LBridgeAuction$Network;III)I" } : Jvm.MethodName) prog_1_method_41_code (4 : Nat) (Option.some Jvm.ClassFile.FieldType.int)) ∈ lw_all := lw_g (lw_at lw_m4 221 rfl) rfl
theorem q1018 : (Jvm.Cond.methodLink "BridgeAuction" (129 : Nat) ({ cls := "BridgeAuction$Network", name := "setPriority", desc := "(II)I" } : Jvm.MethodName)) ∈ lw_all := lw_g (lw_at lw_m4 222 rfl) rfl
theorem q1030 : (Jvm.Cond.static ({ cls := "BridgeAuction", name := "lambda$commandOf$5", desc := "(LBridgeAuction$Network;III)I" } : Jvm.MethodName)) ∈ lw_all := lw_g (lw_at lw_m4 234 rfl) rfl
theorem q1031 : (Jvm.Cond.code ({ cls := "BridgeAuction", name := "lambda$commandOf$5", desc := "(LBridgeAuction$Network;III)I" } : Jvm.MethodName) prog_1_method_40_code (4 : Nat) (Option.some Jvm.ClassFile.FieldType.int)) ∈ lw_all := lw_g (lw_at lw_m4 235 rfl) rfl
theorem q1032 : (Jvm.Cond.methodLink "BridgeAuction" (142 : Nat) ({ cls := "BridgeAuction$Network", name := "moveHost", desc := "(II)I" } : Jvm.MethodName)) ∈ lw_all := lw_g (lw_at lw_m4 236 rfl) rfl
theorem q1038 : (Jvm.Cond.static ({ cls := "BridgeAuction", name := "lambda$commandOf$6", desc := "(LBridgeAuction$Network;III)I" } : Jvm.MethodName)) ∈ lw_all := lw_g (lw_at lw_m5 2 rfl) rfl
theorem q1039 : (Jvm.Cond.code ({ cls := "BridgeAuction", name := "lambda$commandOf$6", desc := "(LBridgeAuction$Network;III)I" } : Jvm.MethodName) prog_1_method_39_code (4 : Nat) (Option.some Jvm.ClassFile.FieldType.int)) ∈ lw_all := lw_g (lw_at lw_m5 3 rfl) rfl
theorem q1040 : (Jvm.Cond.methodLink "BridgeAuction" (171 : Nat) ({ cls := "BridgeAuction$Network", name := "tick", desc := "(I)I" } : Jvm.MethodName)) ∈ lw_all := lw_g (lw_at lw_m5 4 rfl) rfl
theorem q1152 : (Jvm.Cond.static ({ cls := "BridgeAuction", name := "numbersOf", desc := "(Ljava/lang/String;)I" } : Jvm.MethodName)) ∈ lw_all := lw_g (lw_at lw_m5 116 rfl) rfl
theorem q1153 : (Jvm.Cond.code ({ cls := "BridgeAuction", name := "numbersOf", desc := "(Ljava/lang/String;)I" } : Jvm.MethodName) prog_1_method_6_code (3 : Nat) (Option.some Jvm.ClassFile.FieldType.int)) ∈ lw_all := lw_g (lw_at lw_m5 117 rfl) rfl
theorem q1158 : (Jvm.Cond.methodLink "BridgeAuction" (125 : Nat) ({ cls := "BridgeAuction$Network", name := "copy", desc := "()LBridgeAuction$Network;" } : Jvm.MethodName)) ∈ lw_all := lw_g (lw_at lw_m5 122 rfl) rfl
theorem q1181 : (Jvm.Cond.methodLink "BridgeAuction" (271 : Nat) ({ cls := "BridgeAuction", name := "carryOut", desc := "(LBridgeAuction$Network;)I" } : Jvm.MethodName)) ∈ lw_all := lw_g (lw_at lw_m5 145 rfl) rfl
theorem q1182 : (Jvm.Cond.privateMethod ({ cls := "BridgeAuction", name := "carryOut", desc := "(LBridgeAuction$Network;)I" } : Jvm.MethodName)) ∈ lw_tbl := lw_at lw_m5 146 rfl
theorem q1183 : (Jvm.Cond.instanceMethod ({ cls := "BridgeAuction", name := "carryOut", desc := "(LBridgeAuction$Network;)I" } : Jvm.MethodName)) ∈ lw_all := lw_g (lw_at lw_m5 147 rfl) rfl
theorem q1184 : (Jvm.Cond.codeWith ({ cls := "BridgeAuction", name := "carryOut", desc := "(LBridgeAuction$Network;)I" } : Jvm.MethodName) prog_1_method_33_code (5 : Nat) (Option.some Jvm.ClassFile.FieldType.int) [((11 : Nat), (54 : Nat), (57 : Nat), (1 : Nat)), ((11 : Nat), (54 : Nat), (57 : Nat), (7 : Nat)), ((11 : Nat), (54 : Nat), (57 : Nat), (10 : Nat))]) ∈ lw_all := lw_g (lw_at lw_m5 148 rfl) rfl
theorem q1200 : (Jvm.Cond.interfaceEntry "BridgeAuction" (263 : Nat)) ∈ lw_tbl := lw_at lw_m5 164 rfl
theorem q1201 : (Jvm.Cond.methodLink "BridgeAuction" (263 : Nat) ({ cls := "BridgeAuction$Command", name := "run", desc := "(LBridgeAuction$Network;III)I" } : Jvm.MethodName)) ∈ lw_all := lw_g (lw_at lw_m5 165 rfl) rfl
theorem q1204 : (Jvm.Cond.methodLink "BridgeAuction" (113 : Nat) ({ cls := "BridgeAuction", name := "become", desc := "(LBridgeAuction$Network;I)I" } : Jvm.MethodName)) ∈ lw_all := lw_g (lw_at lw_m5 168 rfl) rfl
theorem q1205 : (Jvm.Cond.privateMethod ({ cls := "BridgeAuction", name := "become", desc := "(LBridgeAuction$Network;I)I" } : Jvm.MethodName)) ∈ lw_tbl := lw_at lw_m5 169 rfl
theorem q1206 : (Jvm.Cond.instanceMethod ({ cls := "BridgeAuction", name := "become", desc := "(LBridgeAuction$Network;I)I" } : Jvm.MethodName)) ∈ lw_all := lw_g (lw_at lw_m5 170 rfl) rfl
theorem q1207 : (Jvm.Cond.code ({ cls := "BridgeAuction", name := "become", desc := "(LBridgeAuction$Network;I)I" } : Jvm.MethodName) prog_1_method_8_code (3 : Nat) (Option.some Jvm.ClassFile.FieldType.int)) ∈ lw_all := lw_g (lw_at lw_m5 171 rfl) rfl
theorem q1208 : (Jvm.Cond.methodLink "BridgeAuction" (76 : Nat) ({ cls := "java/lang/System", name := "arraycopy", desc := "(Ljava/lang/Object;ILjava/lang/Object;II)V" } : Jvm.MethodName)) ∈ lw_all := lw_g (lw_at lw_m5 172 rfl) rfl
theorem q1210 : (Jvm.Cond.instanceMethod ({ cls := "BridgeAuction", name := "digest", desc := "()J" } : Jvm.MethodName)) ∈ lw_all := lw_g (lw_at lw_m5 174 rfl) rfl
theorem q1211 : (Jvm.Cond.selects "BridgeAuction" ({ cls := "BridgeAuction", name := "digest", desc := "()J" } : Jvm.MethodName) ({ cls := "BridgeAuction", name := "digest", desc := "()J" } : Jvm.MethodName)) ∈ lw_all := lw_g (lw_at lw_m5 175 rfl) rfl
theorem q1212 : (Jvm.Cond.code ({ cls := "BridgeAuction", name := "digest", desc := "()J" } : Jvm.MethodName) prog_1_method_38_code (7 : Nat) (Option.some Jvm.ClassFile.FieldType.long)) ∈ lw_all := lw_g (lw_at lw_m5 176 rfl) rfl
theorem q1213 : (Jvm.Cond.constantLong "BridgeAuction" (283 : Nat) (18498 : Int64)) ∈ lw_all := lw_g (lw_at lw_m5 177 rfl) rfl
theorem q1214 : (Jvm.Cond.methodLink "BridgeAuction" (279 : Nat) ({ cls := "BridgeAuction", name := "hash", desc := "(J[I)J" } : Jvm.MethodName)) ∈ lw_all := lw_g (lw_at lw_m5 178 rfl) rfl
theorem q1215 : (Jvm.Cond.static ({ cls := "BridgeAuction", name := "hash", desc := "(J[I)J" } : Jvm.MethodName)) ∈ lw_all := lw_g (lw_at lw_m5 179 rfl) rfl
theorem q1216 : (Jvm.Cond.code ({ cls := "BridgeAuction", name := "hash", desc := "(J[I)J" } : Jvm.MethodName) prog_1_method_36_code (9 : Nat) (Option.some Jvm.ClassFile.FieldType.long)) ∈ lw_all := lw_g (lw_at lw_m5 180 rfl) rfl
theorem q1217 : (Jvm.Cond.constantLong "BridgeAuction" (277 : Nat) (31 : Int64)) ∈ lw_all := lw_g (lw_at lw_m5 181 rfl) rfl
theorem q1218 : (Jvm.Cond.methodLink "BridgeAuction" (285 : Nat) ({ cls := "java/util/ArrayList", name := "get", desc := "(I)Ljava/lang/Object;" } : Jvm.MethodName)) ∈ lw_all := lw_g (lw_at lw_m5 182 rfl) rfl
theorem q1219 : (Jvm.Cond.classLink "BridgeAuction" (186 : Nat) "BridgeAuction$Bridge") ∈ lw_all := lw_g (lw_at lw_m5 183 rfl) rfl
theorem q1220 : (Jvm.Cond.methodLink "BridgeAuction" (185 : Nat) ({ cls := "BridgeAuction$Bridge", name := "value", desc := "(I)I" } : Jvm.MethodName)) ∈ lw_all := lw_g (lw_at lw_m5 184 rfl) rfl
theorem q1228 : (Jvm.Cond.methodLink "BridgeAuction" (217 : Nat) ({ cls := "BridgeAuction$Bridge", name := "entry", desc := "(II)I" } : Jvm.MethodName)) ∈ lw_all := lw_g (lw_at lw_m5 192 rfl) rfl
theorem q1232 : (Jvm.Cond.classLink "BridgeAuction" (197 : Nat) "BridgeAuction$Link") ∈ lw_all := lw_g (lw_at lw_m5 196 rfl) rfl
theorem q1233 : (Jvm.Cond.methodLink "BridgeAuction" (292 : Nat) ({ cls := "BridgeAuction", name := "hashLink", desc := "(JLBridgeAuction$Link;)J" } : Jvm.MethodName)) ∈ lw_all := lw_g (lw_at lw_m5 197 rfl) rfl
theorem q1234 : (Jvm.Cond.static ({ cls := "BridgeAuction", name := "hashLink", desc := "(JLBridgeAuction$Link;)J" } : Jvm.MethodName)) ∈ lw_all := lw_g (lw_at lw_m5 198 rfl) rfl
theorem q1235 : (Jvm.Cond.code ({ cls := "BridgeAuction", name := "hashLink", desc := "(JLBridgeAuction$Link;)J" } : Jvm.MethodName) prog_1_method_37_code (6 : Nat) (Option.some Jvm.ClassFile.FieldType.long)) ∈ lw_all := lw_g (lw_at lw_m5 199 rfl) rfl
theorem q1236 : (Jvm.Cond.methodLink "BridgeAuction" (196 : Nat) ({ cls := "BridgeAuction$Link", name := "value", desc := "(I)I" } : Jvm.MethodName)) ∈ lw_all := lw_g (lw_at lw_m5 200 rfl) rfl
theorem q1241 : (Jvm.Cond.methodLink "BridgeAuction" (206 : Nat) ({ cls := "BridgeAuction$Port", name := "value", desc := "(I)I" } : Jvm.MethodName)) ∈ lw_all := lw_g (lw_at lw_m5 205 rfl) rfl
theorem q1245 : (Jvm.Cond.methodLink "BridgeAuction" (220 : Nat) ({ cls := "BridgeAuction$Network", name := "tenantValue", desc := "(II)I" } : Jvm.MethodName)) ∈ lw_all := lw_g (lw_at lw_m5 209 rfl) rfl
theorem q1253 : (Jvm.Cond.methodLink "BridgeAuction" (233 : Nat) ({ cls := "BridgeAuction$Network", name := "count", desc := "(I)I" } : Jvm.MethodName)) ∈ lw_all := lw_g (lw_at lw_m5 217 rfl) rfl
theorem q1270 : (Jvm.Cond.instanceMethod ({ cls := "BridgeAuction", name := "setBridges", desc := "(I)I" } : Jvm.MethodName)) ∈ lw_all := lw_g (lw_at lw_m5 234 rfl) rfl
theorem q1271 : (Jvm.Cond.selects "BridgeAuction" ({ cls := "BridgeAuction", name := "setBridges", desc := "(I)I" } : Jvm.MethodName) ({ cls := "BridgeAuction", name := "setBridges", desc := "(I)I" } : Jvm.MethodName)) ∈ lw_all := lw_g (lw_at lw_m5 235 rfl) rfl
theorem q1272 : (Jvm.Cond.code ({ cls := "BridgeAuction", name := "setBridges", desc := "(I)I" } : Jvm.MethodName) prog_1_method_9_code (3 : Nat) (Option.some Jvm.ClassFile.FieldType.int)) ∈ lw_all := lw_g (lw_at lw_m5 236 rfl) rfl
theorem q1273 : (Jvm.Cond.constantLong "BridgeAuction" (82 : Nat) (2 : Int64)) ∈ lw_all := lw_g (lw_at lw_m5 237 rfl) rfl
theorem q1274 : (Jvm.Cond.constantLong "BridgeAuction" (84 : Nat) (8 : Int64)) ∈ lw_all := lw_g (lw_at lw_m5 238 rfl) rfl
theorem q1275 : (Jvm.Cond.methodLink "BridgeAuction" (86 : Nat) ({ cls := "BridgeAuction", name := "inRange", desc := "(JJJ)Z" } : Jvm.MethodName)) ∈ lw_all := lw_g (lw_at lw_m5 239 rfl) rfl
theorem q1276 : (Jvm.Cond.stringRef "BridgeAuction" (90 : Nat) "bridges") ∈ lw_tbl := lw_at lw_m6 0 rfl
theorem q1277 : (Jvm.Cond.methodLink "BridgeAuction" (92 : Nat) ({ cls := "BridgeAuction", name := "requireArgument", desc := "(ZLjava/lang/String;)V" } : Jvm.MethodName)) ∈ lw_all := lw_g (lw_at lw_m6 1 rfl) rfl
theorem q1282 : (Jvm.Cond.instanceMethod ({ cls := "BridgeAuction", name := "setTimes", desc := "(III)I" } : Jvm.MethodName)) ∈ lw_all := lw_g (lw_at lw_m6 6 rfl) rfl
theorem q1283 : (Jvm.Cond.selects "BridgeAuction" ({ cls := "BridgeAuction", name := "setTimes", desc := "(III)I" } : Jvm.MethodName) ({ cls := "BridgeAuction", name := "setTimes", desc := "(III)I" } : Jvm.MethodName)) ∈ lw_all := lw_g (lw_at lw_m6 7 rfl) rfl
theorem q1284 : (Jvm.Cond.code ({ cls := "BridgeAuction", name := "setTimes", desc := "(III)I" } : Jvm.MethodName) prog_1_method_10_code (6 : Nat) (Option.some Jvm.ClassFile.FieldType.int)) ∈ lw_all := lw_g (lw_at lw_m6 8 rfl) rfl
theorem q1285 : (Jvm.Cond.constantLong "BridgeAuction" (117 : Nat) (20 : Int64)) ∈ lw_all := lw_g (lw_at lw_m6 9 rfl) rfl
theorem q1286 : (Jvm.Cond.constantLong "BridgeAuction" (119 : Nat) (5 : Int64)) ∈ lw_all := lw_g (lw_at lw_m6 10 rfl) rfl
theorem q1287 : (Jvm.Cond.constantLong "BridgeAuction" (121 : Nat) (100 : Int64)) ∈ lw_all := lw_g (lw_at lw_m6 11 rfl) rfl
theorem q1288 : (Jvm.Cond.stringRef "BridgeAuction" (123 : Nat) "times") ∈ lw_tbl := lw_at lw_m6 12 rfl
theorem q1294 : (Jvm.Cond.instanceMethod ({ cls := "BridgeAuction", name := "setPriority", desc := "(II)I" } : Jvm.MethodName)) ∈ lw_all := lw_g (lw_at lw_m6 18 rfl) rfl
theorem q1295 : (Jvm.Cond.selects "BridgeAuction" ({ cls := "BridgeAuction", name := "setPriority", desc := "(II)I" } : Jvm.MethodName) ({ cls := "BridgeAuction", name := "setPriority", desc := "(II)I" } : Jvm.MethodName)) ∈ lw_all := lw_g (lw_at lw_m6 19 rfl) rfl
theorem q1296 : (Jvm.Cond.code ({ cls := "BridgeAuction", name := "setPriority", desc := "(II)I" } : Jvm.MethodName) prog_1_method_11_code (4 : Nat) (Option.some Jvm.ClassFile.FieldType.int)) ∈ lw_all := lw_g (lw_at lw_m6 20 rfl) rfl
theorem q1302 : (Jvm.Cond.instanceMethod ({ cls := "BridgeAuction", name := "addLink", desc := "(III)I" } : Jvm.MethodName)) ∈ lw_all := lw_g (lw_at lw_m6 26 rfl) rfl
theorem q1303 : (Jvm.Cond.selects "BridgeAuction" ({ cls := "BridgeAuction", name := "addLink", desc := "(III)I" } : Jvm.MethodName) ({ cls := "BridgeAuction", name := "addLink", desc := "(III)I" } : Jvm.MethodName)) ∈ lw_all := lw_g (lw_at lw_m6 27 rfl) rfl
theorem q1304 : (Jvm.Cond.code ({ cls := "BridgeAuction", name := "addLink", desc := "(III)I" } : Jvm.MethodName) prog_1_method_12_code (5 : Nat) (Option.some Jvm.ClassFile.FieldType.int)) ∈ lw_all := lw_g (lw_at lw_m6 28 rfl) rfl
theorem q1309 : (Jvm.Cond.instanceMethod ({ cls := "BridgeAuction", name := "fail", desc := "(I)I" } : Jvm.MethodName)) ∈ lw_all := lw_g (lw_at lw_m6 33 rfl) rfl
theorem q1310 : (Jvm.Cond.selects "BridgeAuction" ({ cls := "BridgeAuction", name := "fail", desc := "(I)I" } : Jvm.MethodName) ({ cls := "BridgeAuction", name := "fail", desc := "(I)I" } : Jvm.MethodName)) ∈ lw_all := lw_g (lw_at lw_m6 34 rfl) rfl
theorem q1311 : (Jvm.Cond.code ({ cls := "BridgeAuction", name := "fail", desc := "(I)I" } : Jvm.MethodName) prog_1_method_13_code (3 : Nat) (Option.some Jvm.ClassFile.FieldType.int)) ∈ lw_all := lw_g (lw_at lw_m6 35 rfl) rfl
theorem q1316 : (Jvm.Cond.instanceMethod ({ cls := "BridgeAuction", name := "fix", desc := "(I)I" } : Jvm.MethodName)) ∈ lw_all := lw_g (lw_at lw_m6 40 rfl) rfl
theorem q1317 : (Jvm.Cond.selects "BridgeAuction" ({ cls := "BridgeAuction", name := "fix", desc := "(I)I" } : Jvm.MethodName) ({ cls := "BridgeAuction", name := "fix", desc := "(I)I" } : Jvm.MethodName)) ∈ lw_all := lw_g (lw_at lw_m6 41 rfl) rfl
theorem q1318 : (Jvm.Cond.code ({ cls := "BridgeAuction", name := "fix", desc := "(I)I" } : Jvm.MethodName) prog_1_method_14_code (3 : Nat) (Option.some Jvm.ClassFile.FieldType.int)) ∈ lw_all := lw_g (lw_at lw_m6 42 rfl) rfl
theorem q1323 : (Jvm.Cond.instanceMethod ({ cls := "BridgeAuction", name := "moveHost", desc := "(II)I" } : Jvm.MethodName)) ∈ lw_all := lw_g (lw_at lw_m6 47 rfl) rfl
theorem q1324 : (Jvm.Cond.selects "BridgeAuction" ({ cls := "BridgeAuction", name := "moveHost", desc := "(II)I" } : Jvm.MethodName) ({ cls := "BridgeAuction", name := "moveHost", desc := "(II)I" } : Jvm.MethodName)) ∈ lw_all := lw_g (lw_at lw_m6 48 rfl) rfl
theorem q1325 : (Jvm.Cond.code ({ cls := "BridgeAuction", name := "moveHost", desc := "(II)I" } : Jvm.MethodName) prog_1_method_15_code (4 : Nat) (Option.some Jvm.ClassFile.FieldType.int)) ∈ lw_all := lw_g (lw_at lw_m6 49 rfl) rfl
theorem q1330 : (Jvm.Cond.instanceMethod ({ cls := "BridgeAuction", name := "bid", desc := "(III)I" } : Jvm.MethodName)) ∈ lw_all := lw_g (lw_at lw_m6 54 rfl) rfl
theorem q1331 : (Jvm.Cond.selects "BridgeAuction" ({ cls := "BridgeAuction", name := "bid", desc := "(III)I" } : Jvm.MethodName) ({ cls := "BridgeAuction", name := "bid", desc := "(III)I" } : Jvm.MethodName)) ∈ lw_all := lw_g (lw_at lw_m6 55 rfl) rfl
theorem q1332 : (Jvm.Cond.code ({ cls := "BridgeAuction", name := "bid", desc := "(III)I" } : Jvm.MethodName) prog_1_method_16_code (5 : Nat) (Option.some Jvm.ClassFile.FieldType.int)) ∈ lw_all := lw_g (lw_at lw_m6 56 rfl) rfl
theorem q1337 : (Jvm.Cond.instanceMethod ({ cls := "BridgeAuction", name := "grant", desc := "(II)I" } : Jvm.MethodName)) ∈ lw_all := lw_g (lw_at lw_m6 61 rfl) rfl
theorem q1338 : (Jvm.Cond.selects "BridgeAuction" ({ cls := "BridgeAuction", name := "grant", desc := "(II)I" } : Jvm.MethodName) ({ cls := "BridgeAuction", name := "grant", desc := "(II)I" } : Jvm.MethodName)) ∈ lw_all := lw_g (lw_at lw_m6 62 rfl) rfl
theorem q1339 : (Jvm.Cond.code ({ cls := "BridgeAuction", name := "grant", desc := "(II)I" } : Jvm.MethodName) prog_1_method_18_code (4 : Nat) (Option.some Jvm.ClassFile.FieldType.int)) ∈ lw_all := lw_g (lw_at lw_m6 63 rfl) rfl
theorem q1340 : (Jvm.Cond.methodLink "BridgeAuction" (154 : Nat) ({ cls := "BridgeAuction", name := "requireTenant", desc := "(I)V" } : Jvm.MethodName)) ∈ lw_all := lw_g (lw_at lw_m6 64 rfl) rfl
theorem q1341 : (Jvm.Cond.static ({ cls := "BridgeAuction", name := "requireTenant", desc := "(I)V" } : Jvm.MethodName)) ∈ lw_all := lw_g (lw_at lw_m6 65 rfl) rfl
theorem q1342 : (Jvm.Cond.code ({ cls := "BridgeAuction", name := "requireTenant", desc := "(I)V" } : Jvm.MethodName) prog_1_method_17_code (1 : Nat) (Option.none : Option Jvm.ClassFile.FieldType)) ∈ lw_all := lw_g (lw_at lw_m6 66 rfl) rfl
theorem q1343 : (Jvm.Cond.constantLong "BridgeAuction" (147 : Nat) (3 : Int64)) ∈ lw_all := lw_g (lw_at lw_m6 67 rfl) rfl
theorem q1344 : (Jvm.Cond.stringRef "BridgeAuction" (149 : Nat) "tenant") ∈ lw_tbl := lw_at lw_m6 68 rfl
theorem q1345 : (Jvm.Cond.methodLink "BridgeAuction" (151 : Nat) ({ cls := "BridgeAuction", name := "requireIndex", desc := "(ZLjava/lang/String;)V" } : Jvm.MethodName)) ∈ lw_all := lw_g (lw_at lw_m6 69 rfl) rfl
theorem q1346 : (Jvm.Cond.constantLong "BridgeAuction" (158 : Nat) (10000 : Int64)) ∈ lw_all := lw_g (lw_at lw_m6 70 rfl) rfl
theorem q1347 : (Jvm.Cond.stringRef "BridgeAuction" (160 : Nat) "credits") ∈ lw_tbl := lw_at lw_m6 71 rfl
theorem q1348 : (Jvm.Cond.constant "BridgeAuction" (165 : Nat) (1000000 : Int32)) ∈ lw_all := lw_g (lw_at lw_m6 72 rfl) rfl
theorem q1349 : (Jvm.Cond.stringRef "BridgeAuction" (166 : Nat) "too many credits") ∈ lw_tbl := lw_at lw_m6 73 rfl
theorem q1350 : (Jvm.Cond.methodLink "BridgeAuction" (168 : Nat) ({ cls := "BridgeAuction", name := "requireState", desc := "(ZLjava/lang/String;)V" } : Jvm.MethodName)) ∈ lw_all := lw_g (lw_at lw_m6 74 rfl) rfl
theorem q1355 : (Jvm.Cond.instanceMethod ({ cls := "BridgeAuction", name := "tick", desc := "(I)I" } : Jvm.MethodName)) ∈ lw_all := lw_g (lw_at lw_m6 79 rfl) rfl
theorem q1356 : (Jvm.Cond.selects "BridgeAuction" ({ cls := "BridgeAuction", name := "tick", desc := "(I)I" } : Jvm.MethodName) ({ cls := "BridgeAuction", name := "tick", desc := "(I)I" } : Jvm.MethodName)) ∈ lw_all := lw_g (lw_at lw_m6 80 rfl) rfl
theorem q1357 : (Jvm.Cond.code ({ cls := "BridgeAuction", name := "tick", desc := "(I)I" } : Jvm.MethodName) prog_1_method_19_code (3 : Nat) (Option.some Jvm.ClassFile.FieldType.int)) ∈ lw_all := lw_g (lw_at lw_m6 81 rfl) rfl
theorem q1362 : (Jvm.Cond.instanceMethod ({ cls := "BridgeAuction", name := "send", desc := "(II)I" } : Jvm.MethodName)) ∈ lw_all := lw_g (lw_at lw_m6 86 rfl) rfl
theorem q1363 : (Jvm.Cond.selects "BridgeAuction" ({ cls := "BridgeAuction", name := "send", desc := "(II)I" } : Jvm.MethodName) ({ cls := "BridgeAuction", name := "send", desc := "(II)I" } : Jvm.MethodName)) ∈ lw_all := lw_g (lw_at lw_m6 87 rfl) rfl
theorem q1364 : (Jvm.Cond.code ({ cls := "BridgeAuction", name := "send", desc := "(II)I" } : Jvm.MethodName) prog_1_method_21_code (4 : Nat) (Option.some Jvm.ClassFile.FieldType.int)) ∈ lw_all := lw_g (lw_at lw_m6 88 rfl) rfl
theorem q1365 : (Jvm.Cond.methodLink "BridgeAuction" (176 : Nat) ({ cls := "BridgeAuction$Network", name := "send", desc := "(II)I" } : Jvm.MethodName)) ∈ lw_all := lw_g (lw_at lw_m6 89 rfl) rfl
theorem q1384 : (Jvm.Cond.instanceMethod ({ cls := "BridgeAuction", name := "bridge", desc := "(II)I" } : Jvm.MethodName)) ∈ lw_all := lw_g (lw_at lw_m6 108 rfl) rfl
theorem q1385 : (Jvm.Cond.selects "BridgeAuction" ({ cls := "BridgeAuction", name := "bridge", desc := "(II)I" } : Jvm.MethodName) ({ cls := "BridgeAuction", name := "bridge", desc := "(II)I" } : Jvm.MethodName)) ∈ lw_all := lw_g (lw_at lw_m6 109 rfl) rfl
theorem q1386 : (Jvm.Cond.code ({ cls := "BridgeAuction", name := "bridge", desc := "(II)I" } : Jvm.MethodName) prog_1_method_22_code (4 : Nat) (Option.some Jvm.ClassFile.FieldType.int)) ∈ lw_all := lw_g (lw_at lw_m6 110 rfl) rfl
theorem q1387 : (Jvm.Cond.methodLink "BridgeAuction" (179 : Nat) ({ cls := "BridgeAuction$Network", name := "bridge", desc := "(I)LBridgeAuction$Bridge;" } : Jvm.MethodName)) ∈ lw_all := lw_g (lw_at lw_m6 111 rfl) rfl
theorem q1388 : (Jvm.Cond.stringRef "BridgeAuction" (183 : Nat) "what") ∈ lw_tbl := lw_at lw_m6 112 rfl
theorem q1393 : (Jvm.Cond.instanceMethod ({ cls := "BridgeAuction", name := "link", desc := "(II)I" } : Jvm.MethodName)) ∈ lw_all := lw_g (lw_at lw_m6 117 rfl) rfl
theorem q1394 : (Jvm.Cond.selects "BridgeAuction" ({ cls := "BridgeAuction", name := "link", desc := "(II)I" } : Jvm.MethodName) ({ cls := "BridgeAuction", name := "link", desc := "(II)I" } : Jvm.MethodName)) ∈ lw_all := lw_g (lw_at lw_m6 118 rfl) rfl
theorem q1395 : (Jvm.Cond.code ({ cls := "BridgeAuction", name := "link", desc := "(II)I" } : Jvm.MethodName) prog_1_method_24_code (4 : Nat) (Option.some Jvm.ClassFile.FieldType.int)) ∈ lw_all := lw_g (lw_at lw_m6 119 rfl) rfl
theorem q1396 : (Jvm.Cond.methodLink "BridgeAuction" (193 : Nat) ({ cls := "BridgeAuction$Network", name := "link", desc := "(I)LBridgeAuction$Link;" } : Jvm.MethodName)) ∈ lw_all := lw_g (lw_at lw_m6 120 rfl) rfl
theorem q1401 : (Jvm.Cond.instanceMethod ({ cls := "BridgeAuction", name := "port", desc := "(IZI)I" } : Jvm.MethodName)) ∈ lw_all := lw_g (lw_at lw_m6 125 rfl) rfl
theorem q1402 : (Jvm.Cond.selects "BridgeAuction" ({ cls := "BridgeAuction", name := "port", desc := "(IZI)I" } : Jvm.MethodName) ({ cls := "BridgeAuction", name := "port", desc := "(IZI)I" } : Jvm.MethodName)) ∈ lw_all := lw_g (lw_at lw_m6 126 rfl) rfl
theorem q1403 : (Jvm.Cond.code ({ cls := "BridgeAuction", name := "port", desc := "(IZI)I" } : Jvm.MethodName) prog_1_method_25_code (5 : Nat) (Option.some Jvm.ClassFile.FieldType.int)) ∈ lw_all := lw_g (lw_at lw_m6 127 rfl) rfl
theorem q1408 : (Jvm.Cond.instanceMethod ({ cls := "BridgeAuction", name := "entry", desc := "(II)I" } : Jvm.MethodName)) ∈ lw_all := lw_g (lw_at lw_m6 132 rfl) rfl
theorem q1409 : (Jvm.Cond.selects "BridgeAuction" ({ cls := "BridgeAuction", name := "entry", desc := "(II)I" } : Jvm.MethodName) ({ cls := "BridgeAuction", name := "entry", desc := "(II)I" } : Jvm.MethodName)) ∈ lw_all := lw_g (lw_at lw_m6 133 rfl) rfl
theorem q1410 : (Jvm.Cond.code ({ cls := "BridgeAuction", name := "entry", desc := "(II)I" } : Jvm.MethodName) prog_1_method_26_code (3 : Nat) (Option.some Jvm.ClassFile.FieldType.int)) ∈ lw_all := lw_g (lw_at lw_m6 134 rfl) rfl
theorem q1411 : (Jvm.Cond.methodLink "BridgeAuction" (209 : Nat) ({ cls := "BridgeAuction$Network", name := "isBridge", desc := "(I)Z" } : Jvm.MethodName)) ∈ lw_all := lw_g (lw_at lw_m6 135 rfl) rfl
theorem q1412 : (Jvm.Cond.constantLong "BridgeAuction" (213 : Nat) (7 : Int64)) ∈ lw_all := lw_g (lw_at lw_m6 136 rfl) rfl
theorem q1413 : (Jvm.Cond.stringRef "BridgeAuction" (215 : Nat) "bridge or host") ∈ lw_tbl := lw_at lw_m6 137 rfl
theorem q1418 : (Jvm.Cond.instanceMethod ({ cls := "BridgeAuction", name := "tenant", desc := "(II)I" } : Jvm.MethodName)) ∈ lw_all := lw_g (lw_at lw_m6 142 rfl) rfl
theorem q1419 : (Jvm.Cond.selects "BridgeAuction" ({ cls := "BridgeAuction", name := "tenant", desc := "(II)I" } : Jvm.MethodName) ({ cls := "BridgeAuction", name := "tenant", desc := "(II)I" } : Jvm.MethodName)) ∈ lw_all := lw_g (lw_at lw_m6 143 rfl) rfl
theorem q1420 : (Jvm.Cond.code ({ cls := "BridgeAuction", name := "tenant", desc := "(II)I" } : Jvm.MethodName) prog_1_method_27_code (3 : Nat) (Option.some Jvm.ClassFile.FieldType.int)) ∈ lw_all := lw_g (lw_at lw_m6 144 rfl) rfl
theorem q1425 : (Jvm.Cond.instanceMethod ({ cls := "BridgeAuction", name := "bidOf", desc := "(II)I" } : Jvm.MethodName)) ∈ lw_all := lw_g (lw_at lw_m6 149 rfl) rfl
theorem q1426 : (Jvm.Cond.selects "BridgeAuction" ({ cls := "BridgeAuction", name := "bidOf", desc := "(II)I" } : Jvm.MethodName) ({ cls := "BridgeAuction", name := "bidOf", desc := "(II)I" } : Jvm.MethodName)) ∈ lw_all := lw_g (lw_at lw_m6 150 rfl) rfl
theorem q1427 : (Jvm.Cond.code ({ cls := "BridgeAuction", name := "bidOf", desc := "(II)I" } : Jvm.MethodName) prog_1_method_28_code (3 : Nat) (Option.some Jvm.ClassFile.FieldType.int)) ∈ lw_all := lw_g (lw_at lw_m6 151 rfl) rfl
theorem q1428 : (Jvm.Cond.methodLink "BridgeAuction" (223 : Nat) ({ cls := "BridgeAuction$Network", name := "isLink", desc := "(I)Z" } : Jvm.MethodName)) ∈ lw_all := lw_g (lw_at lw_m6 152 rfl) rfl
theorem q1429 : (Jvm.Cond.stringRef "BridgeAuction" (226 : Nat) "tenant or link") ∈ lw_tbl := lw_at lw_m6 153 rfl
theorem q1434 : (Jvm.Cond.instanceMethod ({ cls := "BridgeAuction", name := "count", desc := "(I)I" } : Jvm.MethodName)) ∈ lw_all := lw_g (lw_at lw_m6 158 rfl) rfl
theorem q1435 : (Jvm.Cond.selects "BridgeAuction" ({ cls := "BridgeAuction", name := "count", desc := "(I)I" } : Jvm.MethodName) ({ cls := "BridgeAuction", name := "count", desc := "(I)I" } : Jvm.MethodName)) ∈ lw_all := lw_g (lw_at lw_m6 159 rfl) rfl
theorem q1436 : (Jvm.Cond.code ({ cls := "BridgeAuction", name := "count", desc := "(I)I" } : Jvm.MethodName) prog_1_method_29_code (2 : Nat) (Option.some Jvm.ClassFile.FieldType.int)) ∈ lw_all := lw_g (lw_at lw_m6 160 rfl) rfl
theorem q1437 : (Jvm.Cond.constantLong "BridgeAuction" (231 : Nat) (6 : Int64)) ∈ lw_all := lw_g (lw_at lw_m6 161 rfl) rfl
theorem q1442 : (Jvm.Cond.instanceMethod ({ cls := "BridgeAuction", name := "type", desc := "(I)I" } : Jvm.MethodName)) ∈ lw_all := lw_g (lw_at lw_m6 166 rfl) rfl
theorem q1443 : (Jvm.Cond.selects "BridgeAuction" ({ cls := "BridgeAuction", name := "type", desc := "(I)I" } : Jvm.MethodName) ({ cls := "BridgeAuction", name := "type", desc := "(I)I" } : Jvm.MethodName)) ∈ lw_all := lw_g (lw_at lw_m6 167 rfl) rfl
theorem q1444 : (Jvm.Cond.code ({ cls := "BridgeAuction", name := "type", desc := "(I)I" } : Jvm.MethodName) prog_1_method_31_code (2 : Nat) (Option.some Jvm.ClassFile.FieldType.int)) ∈ lw_all := lw_g (lw_at lw_m6 168 rfl) rfl
theorem q1445 : (Jvm.Cond.constantLong "BridgeAuction" (240 : Nat) (127 : Int64)) ∈ lw_all := lw_g (lw_at lw_m6 169 rfl) rfl
theorem q1446 : (Jvm.Cond.stringRef "BridgeAuction" (242 : Nat) "byte") ∈ lw_tbl := lw_at lw_m6 170 rfl
theorem q1447 : (Jvm.Cond.stringRef "BridgeAuction" (247 : Nat) "script") ∈ lw_tbl := lw_at lw_m6 171 rfl
theorem q1452 : (Jvm.Cond.instanceMethod ({ cls := "BridgeAuction", name := "undo", desc := "()I" } : Jvm.MethodName)) ∈ lw_all := lw_g (lw_at lw_m6 176 rfl) rfl
theorem q1453 : (Jvm.Cond.selects "BridgeAuction" ({ cls := "BridgeAuction", name := "undo", desc := "()I" } : Jvm.MethodName) ({ cls := "BridgeAuction", name := "undo", desc := "()I" } : Jvm.MethodName)) ∈ lw_all := lw_g (lw_at lw_m6 177 rfl) rfl
theorem q1454 : (Jvm.Cond.code ({ cls := "BridgeAuction", name := "undo", desc := "()I" } : Jvm.MethodName) prog_1_method_35_code (1 : Nat) (Option.some Jvm.ClassFile.FieldType.int)) ∈ lw_all := lw_g (lw_at lw_m6 178 rfl) rfl
theorem q1455 : (Jvm.Cond.stringRef "BridgeAuction" (275 : Nat) "nothing saved") ∈ lw_tbl := lw_at lw_m6 179 rfl
theorem q1871 : (Jvm.Cond.castable "BridgeAuction" "java/lang/Object") ∈ lw_tbl := lw_at lw_m8 115 rfl
theorem in_X1 : ∀ w ∈ wsX10, w ∈ lw_all := lw_in wsX10 [352, 354, 356, 358, 360] (by decide +kernel) (by decide +kernel)
theorem q78 : (Jvm.Cond.initialized "BridgeAuction$Network") ∈ lw_all := lw_g (lw_at lw_m1 2 rfl) rfl
theorem q118 : (Jvm.Cond.static ({ cls := "BridgeAuction$Network", name := "begun", desc := "(I)LBridgeAuction$Network;" } : Jvm.MethodName)) ∈ lw_all := lw_g (lw_at lw_m1 42 rfl) rfl
theorem q119 : (Jvm.Cond.code ({ cls := "BridgeAuction$Network", name := "begun", desc := "(I)LBridgeAuction$Network;" } : Jvm.MethodName) prog_5_method_3_code (4 : Nat) (Option.some (Jvm.ClassFile.FieldType.object "BridgeAuction$Network"))) ∈ lw_all := lw_g (lw_at lw_m1 43 rfl) rfl
theorem q120 : (Jvm.Cond.classLink "BridgeAuction$Network" (13 : Nat) "BridgeAuction$Network") ∈ lw_all := lw_g (lw_at lw_m1 44 rfl) rfl
theorem q121 : (Jvm.Cond.instantiable "BridgeAuction$Network" (15 : Nat)) ∈ lw_all := lw_g (lw_at lw_m1 45 rfl) rfl
theorem q122 : (Jvm.Cond.methodLink "BridgeAuction$Network" (44 : Nat) ({ cls := "BridgeAuction$Network", name := "<init>", desc := "()V" } : Jvm.MethodName)) ∈ lw_all := lw_g (lw_at lw_m1 46 rfl) rfl
theorem q123 : (Jvm.Cond.instanceMethod ({ cls := "BridgeAuction$Network", name := "<init>", desc := "()V" } : Jvm.MethodName)) ∈ lw_all := lw_g (lw_at lw_m1 47 rfl) rfl
theorem q124 : (Jvm.Cond.code ({ cls := "BridgeAuction$Network", name := "<init>", desc := "()V" } : Jvm.MethodName) prog_5_method_1_code (1 : Nat) (Option.none : Option Jvm.ClassFile.FieldType)) ∈ lw_all := lw_g (lw_at lw_m1 48 rfl) rfl
theorem q125 : (Jvm.Cond.methodLink "BridgeAuction$Network" (3 : Nat) ({ cls := "java/lang/Object", name := "<init>", desc := "()V" } : Jvm.MethodName)) ∈ lw_all := lw_g (lw_at lw_m1 49 rfl) rfl
theorem q126 : (Jvm.Cond.classLink "BridgeAuction$Network" (9 : Nat) "java/util/ArrayList") ∈ lw_all := lw_g (lw_at lw_m1 50 rfl) rfl
theorem q128 : (Jvm.Cond.methodLink "BridgeAuction$Network" (11 : Nat) ({ cls := "java/util/ArrayList", name := "<init>", desc := "()V" } : Jvm.MethodName)) ∈ lw_all := lw_g (lw_at lw_m1 52 rfl) rfl
theorem q152 : (Jvm.Cond.fieldLink "BridgeAuction$Network" (12 : Nat) "BridgeAuction$Network" "bridges" "Ljava/util/ArrayList;") ∈ lw_all := lw_g (lw_at lw_m1 76 rfl) rfl
theorem q154 : (Jvm.Cond.fieldLink "BridgeAuction$Network" (18 : Nat) "BridgeAuction$Network" "links" "Ljava/util/ArrayList;") ∈ lw_all := lw_g (lw_at lw_m1 78 rfl) rfl
theorem q156 : (Jvm.Cond.fieldLink "BridgeAuction$Network" (21 : Nat) "BridgeAuction$Network" "places" "[I") ∈ lw_all := lw_g (lw_at lw_m1 80 rfl) rfl
theorem q158 : (Jvm.Cond.fieldLink "BridgeAuction$Network" (25 : Nat) "BridgeAuction$Network" "credits" "[I") ∈ lw_all := lw_g (lw_at lw_m1 82 rfl) rfl
theorem q160 : (Jvm.Cond.fieldLink "BridgeAuction$Network" (28 : Nat) "BridgeAuction$Network" "paid" "[I") ∈ lw_all := lw_g (lw_at lw_m1 84 rfl) rfl
theorem q161 : (Jvm.Cond.fieldLink "BridgeAuction$Network" (31 : Nat) "BridgeAuction$Network" "refunded" "[I") ∈ lw_all := lw_g (lw_at lw_m1 85 rfl) rfl
theorem q162 : (Jvm.Cond.fieldLink "BridgeAuction$Network" (74 : Nat) "BridgeAuction$Network" "time" "I") ∈ lw_all := lw_g (lw_at lw_m1 86 rfl) rfl
theorem q164 : (Jvm.Cond.fieldLink "BridgeAuction$Network" (34 : Nat) "BridgeAuction$Network" "delay" "I") ∈ lw_all := lw_g (lw_at lw_m1 88 rfl) rfl
theorem q166 : (Jvm.Cond.fieldLink "BridgeAuction$Network" (38 : Nat) "BridgeAuction$Network" "interval" "I") ∈ lw_all := lw_g (lw_at lw_m1 90 rfl) rfl
theorem q168 : (Jvm.Cond.fieldLink "BridgeAuction$Network" (41 : Nat) "BridgeAuction$Network" "hysteresis" "I") ∈ lw_all := lw_g (lw_at lw_m1 92 rfl) rfl
theorem q170 : (Jvm.Cond.fieldLink "BridgeAuction$Network" (77 : Nat) "BridgeAuction$Network" "auctions" "I") ∈ lw_all := lw_g (lw_at lw_m1 94 rfl) rfl
theorem q171 : (Jvm.Cond.fieldLink "BridgeAuction$Network" (80 : Nat) "BridgeAuction$Network" "changes" "I") ∈ lw_all := lw_g (lw_at lw_m1 95 rfl) rfl
theorem q172 : (Jvm.Cond.fieldLink "BridgeAuction$Network" (83 : Nat) "BridgeAuction$Network" "frames" "I") ∈ lw_all := lw_g (lw_at lw_m1 96 rfl) rfl
theorem q173 : (Jvm.Cond.fieldLink "BridgeAuction$Network" (86 : Nat) "BridgeAuction$Network" "delivered" "I") ∈ lw_all := lw_g (lw_at lw_m1 97 rfl) rfl
theorem q174 : (Jvm.Cond.fieldLink "BridgeAuction$Network" (89 : Nat) "BridgeAuction$Network" "used" "I") ∈ lw_all := lw_g (lw_at lw_m1 98 rfl) rfl
theorem q175 : (Jvm.Cond.laysFinal "BridgeAuction$Network" "BridgeAuction$Network" "bridges" "Ljava/util/ArrayList;") ∈ lw_all := lw_g (lw_at lw_m1 99 rfl) rfl
theorem q176 : (Jvm.Cond.soleField "BridgeAuction$Network" "bridges") ∈ lw_all := lw_g (lw_at lw_m1 100 rfl) rfl
theorem q177 : (Jvm.Cond.laysFinal "BridgeAuction$Network" "BridgeAuction$Network" "links" "Ljava/util/ArrayList;") ∈ lw_all := lw_g (lw_at lw_m1 101 rfl) rfl
theorem q178 : (Jvm.Cond.soleField "BridgeAuction$Network" "links") ∈ lw_all := lw_g (lw_at lw_m1 102 rfl) rfl
theorem q179 : (Jvm.Cond.laysFinal "BridgeAuction$Network" "BridgeAuction$Network" "places" "[I") ∈ lw_all := lw_g (lw_at lw_m1 103 rfl) rfl
theorem q180 : (Jvm.Cond.soleField "BridgeAuction$Network" "places") ∈ lw_all := lw_g (lw_at lw_m1 104 rfl) rfl
theorem q181 : (Jvm.Cond.laysFinal "BridgeAuction$Network" "BridgeAuction$Network" "credits" "[I") ∈ lw_all := lw_g (lw_at lw_m1 105 rfl) rfl
theorem q182 : (Jvm.Cond.soleField "BridgeAuction$Network" "credits") ∈ lw_all := lw_g (lw_at lw_m1 106 rfl) rfl
theorem q183 : (Jvm.Cond.laysFinal "BridgeAuction$Network" "BridgeAuction$Network" "paid" "[I") ∈ lw_all := lw_g (lw_at lw_m1 107 rfl) rfl
theorem q184 : (Jvm.Cond.soleField "BridgeAuction$Network" "paid") ∈ lw_all := lw_g (lw_at lw_m1 108 rfl) rfl
theorem q185 : (Jvm.Cond.laysFinal "BridgeAuction$Network" "BridgeAuction$Network" "refunded" "[I") ∈ lw_all := lw_g (lw_at lw_m1 109 rfl) rfl
theorem q186 : (Jvm.Cond.soleField "BridgeAuction$Network" "refunded") ∈ lw_all := lw_g (lw_at lw_m1 110 rfl) rfl
theorem q187 : (Jvm.Cond.lays "BridgeAuction$Network" "BridgeAuction$Network" "time" "I") ∈ lw_all := lw_g (lw_at lw_m1 111 rfl) rfl
theorem q188 : (Jvm.Cond.soleField "BridgeAuction$Network" "time") ∈ lw_all := lw_g (lw_at lw_m1 112 rfl) rfl
theorem q189 : (Jvm.Cond.lays "BridgeAuction$Network" "BridgeAuction$Network" "delay" "I") ∈ lw_all := lw_g (lw_at lw_m1 113 rfl) rfl
theorem q190 : (Jvm.Cond.soleField "BridgeAuction$Network" "delay") ∈ lw_all := lw_g (lw_at lw_m1 114 rfl) rfl
theorem q191 : (Jvm.Cond.lays "BridgeAuction$Network" "BridgeAuction$Network" "interval" "I") ∈ lw_all := lw_g (lw_at lw_m1 115 rfl) rfl
theorem q192 : (Jvm.Cond.soleField "BridgeAuction$Network" "interval") ∈ lw_all := lw_g (lw_at lw_m1 116 rfl) rfl
theorem q193 : (Jvm.Cond.lays "BridgeAuction$Network" "BridgeAuction$Network" "hysteresis" "I") ∈ lw_all := lw_g (lw_at lw_m1 117 rfl) rfl
theorem q194 : (Jvm.Cond.soleField "BridgeAuction$Network" "hysteresis") ∈ lw_all := lw_g (lw_at lw_m1 118 rfl) rfl
theorem q195 : (Jvm.Cond.lays "BridgeAuction$Network" "BridgeAuction$Network" "auctions" "I") ∈ lw_all := lw_g (lw_at lw_m1 119 rfl) rfl
theorem q196 : (Jvm.Cond.soleField "BridgeAuction$Network" "auctions") ∈ lw_all := lw_g (lw_at lw_m1 120 rfl) rfl
theorem q197 : (Jvm.Cond.lays "BridgeAuction$Network" "BridgeAuction$Network" "changes" "I") ∈ lw_all := lw_g (lw_at lw_m1 121 rfl) rfl
theorem q198 : (Jvm.Cond.soleField "BridgeAuction$Network" "changes") ∈ lw_all := lw_g (lw_at lw_m1 122 rfl) rfl
theorem q199 : (Jvm.Cond.lays "BridgeAuction$Network" "BridgeAuction$Network" "frames" "I") ∈ lw_all := lw_g (lw_at lw_m1 123 rfl) rfl
theorem q200 : (Jvm.Cond.soleField "BridgeAuction$Network" "frames") ∈ lw_all := lw_g (lw_at lw_m1 124 rfl) rfl
theorem q201 : (Jvm.Cond.lays "BridgeAuction$Network" "BridgeAuction$Network" "delivered" "I") ∈ lw_all := lw_g (lw_at lw_m1 125 rfl) rfl
theorem q202 : (Jvm.Cond.soleField "BridgeAuction$Network" "delivered") ∈ lw_all := lw_g (lw_at lw_m1 126 rfl) rfl
theorem q203 : (Jvm.Cond.lays "BridgeAuction$Network" "BridgeAuction$Network" "used" "I") ∈ lw_all := lw_g (lw_at lw_m1 127 rfl) rfl
theorem q204 : (Jvm.Cond.soleField "BridgeAuction$Network" "used") ∈ lw_all := lw_g (lw_at lw_m1 128 rfl) rfl
theorem q205 : (Jvm.Cond.superclass "BridgeAuction$Network" "java/lang/Object") ∈ lw_all := lw_g (lw_at lw_m1 129 rfl) rfl
theorem q207 : (Jvm.Cond.classLink "BridgeAuction$Network" (53 : Nat) "BridgeAuction$Bridge") ∈ lw_all := lw_g (lw_at lw_m1 131 rfl) rfl
theorem q209 : (Jvm.Cond.methodLink "BridgeAuction$Network" (92 : Nat) ({ cls := "BridgeAuction$Bridge", name := "<init>", desc := "(I)V" } : Jvm.MethodName)) ∈ lw_all := lw_g (lw_at lw_m1 133 rfl) rfl
theorem q228 : (Jvm.Cond.fieldLinkNest "BridgeAuction$Network" (240 : Nat) "BridgeAuction$Vector" "root" "I" "BridgeAuction") ∈ lw_tbl := lw_at lw_m1 152 rfl
theorem q231 : (Jvm.Cond.fieldLinkNest "BridgeAuction$Network" (236 : Nat) "BridgeAuction$Vector" "cost" "I" "BridgeAuction") ∈ lw_tbl := lw_at lw_m1 155 rfl
theorem q235 : (Jvm.Cond.fieldLinkNest "BridgeAuction$Network" (233 : Nat) "BridgeAuction$Vector" "age" "I" "BridgeAuction") ∈ lw_tbl := lw_at lw_m1 159 rfl
theorem q238 : (Jvm.Cond.fieldLinkNest "BridgeAuction$Network" (247 : Nat) "BridgeAuction$Vector" "link" "I" "BridgeAuction") ∈ lw_tbl := lw_at lw_m1 162 rfl
theorem q258 : (Jvm.Cond.fieldLinkNest "BridgeAuction$Network" (223 : Nat) "BridgeAuction$Bridge" "number" "I" "BridgeAuction") ∈ lw_tbl := lw_at lw_m1 182 rfl
theorem q260 : (Jvm.Cond.fieldLinkNest "BridgeAuction$Network" (130 : Nat) "BridgeAuction$Bridge" "priority" "I" "BridgeAuction") ∈ lw_tbl := lw_at lw_m1 184 rfl
theorem q262 : (Jvm.Cond.fieldLinkNest "BridgeAuction$Network" (141 : Nat) "BridgeAuction$Bridge" "vector" "LBridgeAuction$Vector;" "BridgeAuction") ∈ lw_tbl := lw_at lw_m1 186 rfl
theorem q263 : (Jvm.Cond.fieldLinkNest "BridgeAuction$Network" (199 : Nat) "BridgeAuction$Bridge" "next" "LBridgeAuction$Vector;" "BridgeAuction") ∈ lw_tbl := lw_at lw_m1 187 rfl
theorem q279 : (Jvm.Cond.methodLink "BridgeAuction$Network" (59 : Nat) ({ cls := "java/util/ArrayList", name := "add", desc := "(Ljava/lang/Object;)Z" } : Jvm.MethodName)) ∈ lw_all := lw_g (lw_at lw_m1 203 rfl) rfl
theorem q314 : (Jvm.Cond.selects "BridgeAuction$Network" ({ cls := "java/lang/Object", name := "getClass", desc := "()Ljava/lang/Class;" } : Jvm.MethodName) ({ cls := "java/lang/Object", name := "getClass", desc := "()Ljava/lang/Class;" } : Jvm.MethodName)) ∈ lw_all := lw_g (lw_at lw_m1 238 rfl) rfl
theorem q342 : (Jvm.Cond.methodLink "BridgeAuction$Network" (95 : Nat) ({ cls := "java/util/Arrays", name := "fill", desc := "([II)V" } : Jvm.MethodName)) ∈ lw_all := lw_g (lw_at lw_m2 26 rfl) rfl
theorem q381 : (Jvm.Cond.instanceMethod ({ cls := "BridgeAuction$Network", name := "isForest", desc := "()Z" } : Jvm.MethodName)) ∈ lw_all := lw_g (lw_at lw_m2 65 rfl) rfl
theorem q382 : (Jvm.Cond.selects "BridgeAuction$Network" ({ cls := "BridgeAuction$Network", name := "isForest", desc := "()Z" } : Jvm.MethodName) ({ cls := "BridgeAuction$Network", name := "isForest", desc := "()Z" } : Jvm.MethodName)) ∈ lw_all := lw_g (lw_at lw_m2 66 rfl) rfl
theorem q383 : (Jvm.Cond.code ({ cls := "BridgeAuction$Network", name := "isForest", desc := "()Z" } : Jvm.MethodName) prog_5_method_28_code (4 : Nat) (Option.some Jvm.ClassFile.FieldType.boolean)) ∈ lw_all := lw_g (lw_at lw_m2 67 rfl) rfl
theorem q384 : (Jvm.Cond.methodLink "BridgeAuction$Network" (45 : Nat) ({ cls := "java/util/ArrayList", name := "size", desc := "()I" } : Jvm.MethodName)) ∈ lw_all := lw_g (lw_at lw_m2 68 rfl) rfl
theorem q385 : (Jvm.Cond.methodLink "BridgeAuction$Network" (262 : Nat) ({ cls := "BridgeAuction$Network", name := "spread", desc := "([Z)V" } : Jvm.MethodName)) ∈ lw_all := lw_g (lw_at lw_m2 69 rfl) rfl
theorem q386 : (Jvm.Cond.privateMethod ({ cls := "BridgeAuction$Network", name := "spread", desc := "([Z)V" } : Jvm.MethodName)) ∈ lw_tbl := lw_at lw_m2 70 rfl
theorem q387 : (Jvm.Cond.instanceMethod ({ cls := "BridgeAuction$Network", name := "spread", desc := "([Z)V" } : Jvm.MethodName)) ∈ lw_all := lw_g (lw_at lw_m2 71 rfl) rfl
theorem q388 : (Jvm.Cond.code ({ cls := "BridgeAuction$Network", name := "spread", desc := "([Z)V" } : Jvm.MethodName) prog_5_method_18_code (5 : Nat) (Option.none : Option Jvm.ClassFile.FieldType)) ∈ lw_all := lw_g (lw_at lw_m2 72 rfl) rfl
theorem q389 : (Jvm.Cond.methodLink "BridgeAuction$Network" (49 : Nat) ({ cls := "java/util/ArrayList", name := "get", desc := "(I)Ljava/lang/Object;" } : Jvm.MethodName)) ∈ lw_all := lw_g (lw_at lw_m2 73 rfl) rfl
theorem q403 : (Jvm.Cond.classLink "BridgeAuction$Network" (63 : Nat) "BridgeAuction$Link") ∈ lw_all := lw_g (lw_at lw_m2 87 rfl) rfl
theorem q404 : (Jvm.Cond.methodLink "BridgeAuction$Network" (258 : Nat) ({ cls := "BridgeAuction$Link", name := "carries", desc := "()Z" } : Jvm.MethodName)) ∈ lw_all := lw_g (lw_at lw_m2 88 rfl) rfl
theorem q408 : (Jvm.Cond.methodLink "BridgeAuction$Network" (294 : Nat) ({ cls := "BridgeAuction$Network", name := "carrying", desc := "()I" } : Jvm.MethodName)) ∈ lw_all := lw_g (lw_at lw_m2 92 rfl) rfl
theorem q409 : (Jvm.Cond.privateMethod ({ cls := "BridgeAuction$Network", name := "carrying", desc := "()I" } : Jvm.MethodName)) ∈ lw_tbl := lw_at lw_m2 93 rfl
theorem q410 : (Jvm.Cond.instanceMethod ({ cls := "BridgeAuction$Network", name := "carrying", desc := "()I" } : Jvm.MethodName)) ∈ lw_all := lw_g (lw_at lw_m2 94 rfl) rfl
theorem q411 : (Jvm.Cond.code ({ cls := "BridgeAuction$Network", name := "carrying", desc := "()I" } : Jvm.MethodName) prog_5_method_25_code (3 : Nat) (Option.some Jvm.ClassFile.FieldType.int)) ∈ lw_all := lw_g (lw_at lw_m2 95 rfl) rfl
theorem q861 : (Jvm.Cond.instanceMethod ({ cls := "BridgeAuction$Network", name := "addLink", desc := "(III)I" } : Jvm.MethodName)) ∈ lw_all := lw_g (lw_at lw_m4 65 rfl) rfl
theorem q862 : (Jvm.Cond.selects "BridgeAuction$Network" ({ cls := "BridgeAuction$Network", name := "addLink", desc := "(III)I" } : Jvm.MethodName) ({ cls := "BridgeAuction$Network", name := "addLink", desc := "(III)I" } : Jvm.MethodName)) ∈ lw_all := lw_g (lw_at lw_m4 66 rfl) rfl
theorem q863 : (Jvm.Cond.code ({ cls := "BridgeAuction$Network", name := "addLink", desc := "(III)I" } : Jvm.MethodName) prog_5_method_9_code (5 : Nat) (Option.some Jvm.ClassFile.FieldType.int)) ∈ lw_all := lw_g (lw_at lw_m4 67 rfl) rfl
theorem q864 : (Jvm.Cond.methodLink "BridgeAuction$Network" (105 : Nat) ({ cls := "BridgeAuction$Network", name := "isBridge", desc := "(I)Z" } : Jvm.MethodName)) ∈ lw_all := lw_g (lw_at lw_m4 68 rfl) rfl
theorem q865 : (Jvm.Cond.instanceMethod ({ cls := "BridgeAuction$Network", name := "isBridge", desc := "(I)Z" } : Jvm.MethodName)) ∈ lw_all := lw_g (lw_at lw_m4 69 rfl) rfl
theorem q866 : (Jvm.Cond.selects "BridgeAuction$Network" ({ cls := "BridgeAuction$Network", name := "isBridge", desc := "(I)Z" } : Jvm.MethodName) ({ cls := "BridgeAuction$Network", name := "isBridge", desc := "(I)Z" } : Jvm.MethodName)) ∈ lw_all := lw_g (lw_at lw_m4 70 rfl) rfl
theorem q867 : (Jvm.Cond.code ({ cls := "BridgeAuction$Network", name := "isBridge", desc := "(I)Z" } : Jvm.MethodName) prog_5_method_4_code (2 : Nat) (Option.some Jvm.ClassFile.FieldType.boolean)) ∈ lw_all := lw_g (lw_at lw_m4 71 rfl) rfl
theorem q868 : (Jvm.Cond.methodLinkNest "BridgeAuction$Network" (101 : Nat) ({ cls := "BridgeAuction", name := "inRange", desc := "(JJJ)Z" } : Jvm.MethodName) "BridgeAuction") ∈ lw_tbl := lw_at lw_m4 72 rfl
theorem q869 : (Jvm.Cond.stringRef "BridgeAuction$Network" (109 : Nat) "bridge") ∈ lw_tbl := lw_at lw_m4 73 rfl
theorem q870 : (Jvm.Cond.methodLinkNest "BridgeAuction$Network" (111 : Nat) ({ cls := "BridgeAuction", name := "requireIndex", desc := "(ZLjava/lang/String;)V" } : Jvm.MethodName) "BridgeAuction") ∈ lw_tbl := lw_at lw_m4 74 rfl
theorem q888 : (Jvm.Cond.constantLong "BridgeAuction$Network" (145 : Nat) (100 : Int64)) ∈ lw_all := lw_g (lw_at lw_m4 92 rfl) rfl
theorem q889 : (Jvm.Cond.stringRef "BridgeAuction$Network" (118 : Nat) "link") ∈ lw_tbl := lw_at lw_m4 93 rfl
theorem q890 : (Jvm.Cond.methodLinkNest "BridgeAuction$Network" (127 : Nat) ({ cls := "BridgeAuction", name := "requireArgument", desc := "(ZLjava/lang/String;)V" } : Jvm.MethodName) "BridgeAuction") ∈ lw_tbl := lw_at lw_m4 94 rfl
theorem q895 : (Jvm.Cond.stringRef "BridgeAuction$Network" (147 : Nat) "links") ∈ lw_tbl := lw_at lw_m4 99 rfl
theorem q896 : (Jvm.Cond.methodLinkNest "BridgeAuction$Network" (148 : Nat) ({ cls := "BridgeAuction", name := "requireState", desc := "(ZLjava/lang/String;)V" } : Jvm.MethodName) "BridgeAuction") ∈ lw_tbl := lw_at lw_m4 100 rfl
theorem q915 : (Jvm.Cond.methodLink "BridgeAuction$Network" (151 : Nat) ({ cls := "BridgeAuction$Link", name := "<init>", desc := "(III)V" } : Jvm.MethodName)) ∈ lw_all := lw_g (lw_at lw_m4 119 rfl) rfl
theorem q939 : (Jvm.Cond.fieldLinkNest "BridgeAuction$Network" (206 : Nat) "BridgeAuction$Link" "low" "I" "BridgeAuction") ∈ lw_tbl := lw_at lw_m4 143 rfl
theorem q941 : (Jvm.Cond.fieldLinkNest "BridgeAuction$Network" (209 : Nat) "BridgeAuction$Link" "high" "I" "BridgeAuction") ∈ lw_tbl := lw_at lw_m4 145 rfl
theorem q944 : (Jvm.Cond.fieldLinkNest "BridgeAuction$Network" (239 : Nat) "BridgeAuction$Link" "cost" "I" "BridgeAuction") ∈ lw_tbl := lw_at lw_m4 148 rfl
theorem q946 : (Jvm.Cond.fieldLinkNest "BridgeAuction$Network" (157 : Nat) "BridgeAuction$Link" "up" "Z" "BridgeAuction") ∈ lw_tbl := lw_at lw_m4 150 rfl
theorem q948 : (Jvm.Cond.fieldLinkNest "BridgeAuction$Network" (163 : Nat) "BridgeAuction$Link" "winner" "I" "BridgeAuction") ∈ lw_tbl := lw_at lw_m4 152 rfl
theorem q950 : (Jvm.Cond.fieldLinkNest "BridgeAuction$Network" (166 : Nat) "BridgeAuction$Link" "price" "I" "BridgeAuction") ∈ lw_tbl := lw_at lw_m4 154 rfl
theorem q953 : (Jvm.Cond.fieldLinkNest "BridgeAuction$Network" (182 : Nat) "BridgeAuction$Link" "bids" "[I" "BridgeAuction") ∈ lw_tbl := lw_at lw_m4 157 rfl
theorem q956 : (Jvm.Cond.fieldLinkNest "BridgeAuction$Network" (202 : Nat) "BridgeAuction$Link" "lowPort" "LBridgeAuction$Port;" "BridgeAuction") ∈ lw_tbl := lw_at lw_m4 160 rfl
theorem q959 : (Jvm.Cond.fieldLinkNest "BridgeAuction$Network" (216 : Nat) "BridgeAuction$Link" "highPort" "LBridgeAuction$Port;" "BridgeAuction") ∈ lw_tbl := lw_at lw_m4 163 rfl
theorem q987 : (Jvm.Cond.instanceMethod ({ cls := "BridgeAuction$Network", name := "bid", desc := "(III)I" } : Jvm.MethodName)) ∈ lw_all := lw_g (lw_at lw_m4 191 rfl) rfl
theorem q988 : (Jvm.Cond.selects "BridgeAuction$Network" ({ cls := "BridgeAuction$Network", name := "bid", desc := "(III)I" } : Jvm.MethodName) ({ cls := "BridgeAuction$Network", name := "bid", desc := "(III)I" } : Jvm.MethodName)) ∈ lw_all := lw_g (lw_at lw_m4 192 rfl) rfl
theorem q989 : (Jvm.Cond.code ({ cls := "BridgeAuction$Network", name := "bid", desc := "(III)I" } : Jvm.MethodName) prog_5_method_13_code (5 : Nat) (Option.some Jvm.ClassFile.FieldType.int)) ∈ lw_all := lw_g (lw_at lw_m4 193 rfl) rfl
theorem q990 : (Jvm.Cond.constantLong "BridgeAuction$Network" (175 : Nat) (3 : Int64)) ∈ lw_all := lw_g (lw_at lw_m4 194 rfl) rfl
theorem q991 : (Jvm.Cond.methodLink "BridgeAuction$Network" (115 : Nat) ({ cls := "BridgeAuction$Network", name := "isLink", desc := "(I)Z" } : Jvm.MethodName)) ∈ lw_all := lw_g (lw_at lw_m4 195 rfl) rfl
theorem q992 : (Jvm.Cond.instanceMethod ({ cls := "BridgeAuction$Network", name := "isLink", desc := "(I)Z" } : Jvm.MethodName)) ∈ lw_all := lw_g (lw_at lw_m4 196 rfl) rfl
theorem q993 : (Jvm.Cond.selects "BridgeAuction$Network" ({ cls := "BridgeAuction$Network", name := "isLink", desc := "(I)Z" } : Jvm.MethodName) ({ cls := "BridgeAuction$Network", name := "isLink", desc := "(I)Z" } : Jvm.MethodName)) ∈ lw_all := lw_g (lw_at lw_m4 197 rfl) rfl
theorem q994 : (Jvm.Cond.code ({ cls := "BridgeAuction$Network", name := "isLink", desc := "(I)Z" } : Jvm.MethodName) prog_5_method_6_code (2 : Nat) (Option.some Jvm.ClassFile.FieldType.boolean)) ∈ lw_all := lw_g (lw_at lw_m4 198 rfl) rfl
theorem q995 : (Jvm.Cond.stringRef "BridgeAuction$Network" (177 : Nat) "tenant or link") ∈ lw_tbl := lw_at lw_m4 199 rfl
theorem q996 : (Jvm.Cond.constantLong "BridgeAuction$Network" (179 : Nat) (1000 : Int64)) ∈ lw_all := lw_g (lw_at lw_m4 200 rfl) rfl
theorem q997 : (Jvm.Cond.stringRef "BridgeAuction$Network" (181 : Nat) "credits") ∈ lw_tbl := lw_at lw_m4 201 rfl
theorem q1001 : (Jvm.Cond.instanceMethod ({ cls := "BridgeAuction$Network", name := "fail", desc := "(I)I" } : Jvm.MethodName)) ∈ lw_all := lw_g (lw_at lw_m4 205 rfl) rfl
theorem q1002 : (Jvm.Cond.selects "BridgeAuction$Network" ({ cls := "BridgeAuction$Network", name := "fail", desc := "(I)I" } : Jvm.MethodName) ({ cls := "BridgeAuction$Network", name := "fail", desc := "(I)I" } : Jvm.MethodName)) ∈ lw_all := lw_g (lw_at lw_m4 206 rfl) rfl
theorem q1003 : (Jvm.Cond.code ({ cls := "BridgeAuction$Network", name := "fail", desc := "(I)I" } : Jvm.MethodName) prog_5_method_10_code (4 : Nat) (Option.some Jvm.ClassFile.FieldType.int)) ∈ lw_all := lw_g (lw_at lw_m4 207 rfl) rfl
theorem q1004 : (Jvm.Cond.methodLink "BridgeAuction$Network" (154 : Nat) ({ cls := "BridgeAuction$Network", name := "link", desc := "(I)LBridgeAuction$Link;" } : Jvm.MethodName)) ∈ lw_all := lw_g (lw_at lw_m4 208 rfl) rfl
theorem q1005 : (Jvm.Cond.instanceMethod ({ cls := "BridgeAuction$Network", name := "link", desc := "(I)LBridgeAuction$Link;" } : Jvm.MethodName)) ∈ lw_all := lw_g (lw_at lw_m4 209 rfl) rfl
theorem q1006 : (Jvm.Cond.selects "BridgeAuction$Network" ({ cls := "BridgeAuction$Network", name := "link", desc := "(I)LBridgeAuction$Link;" } : Jvm.MethodName) ({ cls := "BridgeAuction$Network", name := "link", desc := "(I)LBridgeAuction$Link;" } : Jvm.MethodName)) ∈ lw_all := lw_g (lw_at lw_m4 210 rfl) rfl
theorem q1007 : (Jvm.Cond.code ({ cls := "BridgeAuction$Network", name := "link", desc := "(I)LBridgeAuction$Link;" } : Jvm.MethodName) prog_5_method_7_code (2 : Nat) (Option.some (Jvm.ClassFile.FieldType.object "BridgeAuction$Link"))) ∈ lw_all := lw_g (lw_at lw_m4 211 rfl) rfl
theorem q1008 : (Jvm.Cond.stringRef "BridgeAuction$Network" (161 : Nat) "link is down") ∈ lw_tbl := lw_at lw_m4 212 rfl
theorem q1012 : (Jvm.Cond.instanceMethod ({ cls := "BridgeAuction$Network", name := "fix", desc := "(I)I" } : Jvm.MethodName)) ∈ lw_all := lw_g (lw_at lw_m4 216 rfl) rfl
theorem q1013 : (Jvm.Cond.selects "BridgeAuction$Network" ({ cls := "BridgeAuction$Network", name := "fix", desc := "(I)I" } : Jvm.MethodName) ({ cls := "BridgeAuction$Network", name := "fix", desc := "(I)I" } : Jvm.MethodName)) ∈ lw_all := lw_g (lw_at lw_m4 217 rfl) rfl
theorem q1014 : (Jvm.Cond.code ({ cls := "BridgeAuction$Network", name := "fix", desc := "(I)I" } : Jvm.MethodName) prog_5_method_11_code (5 : Nat) (Option.some Jvm.ClassFile.FieldType.int)) ∈ lw_all := lw_g (lw_at lw_m4 218 rfl) rfl
theorem q1015 : (Jvm.Cond.stringRef "BridgeAuction$Network" (169 : Nat) "link is up") ∈ lw_tbl := lw_at lw_m4 219 rfl
theorem q1019 : (Jvm.Cond.instanceMethod ({ cls := "BridgeAuction$Network", name := "setPriority", desc := "(II)I" } : Jvm.MethodName)) ∈ lw_all := lw_g (lw_at lw_m4 223 rfl) rfl
theorem q1020 : (Jvm.Cond.selects "BridgeAuction$Network" ({ cls := "BridgeAuction$Network", name := "setPriority", desc := "(II)I" } : Jvm.MethodName) ({ cls := "BridgeAuction$Network", name := "setPriority", desc := "(II)I" } : Jvm.MethodName)) ∈ lw_all := lw_g (lw_at lw_m4 224 rfl) rfl
theorem q1021 : (Jvm.Cond.code ({ cls := "BridgeAuction$Network", name := "setPriority", desc := "(II)I" } : Jvm.MethodName) prog_5_method_8_code (5 : Nat) (Option.some Jvm.ClassFile.FieldType.int)) ∈ lw_all := lw_g (lw_at lw_m4 225 rfl) rfl
theorem q1022 : (Jvm.Cond.methodLink "BridgeAuction$Network" (120 : Nat) ({ cls := "BridgeAuction$Network", name := "bridge", desc := "(I)LBridgeAuction$Bridge;" } : Jvm.MethodName)) ∈ lw_all := lw_g (lw_at lw_m4 226 rfl) rfl
theorem q1023 : (Jvm.Cond.instanceMethod ({ cls := "BridgeAuction$Network", name := "bridge", desc := "(I)LBridgeAuction$Bridge;" } : Jvm.MethodName)) ∈ lw_all := lw_g (lw_at lw_m4 227 rfl) rfl
theorem q1024 : (Jvm.Cond.selects "BridgeAuction$Network" ({ cls := "BridgeAuction$Network", name := "bridge", desc := "(I)LBridgeAuction$Bridge;" } : Jvm.MethodName) ({ cls := "BridgeAuction$Network", name := "bridge", desc := "(I)LBridgeAuction$Bridge;" } : Jvm.MethodName)) ∈ lw_all := lw_g (lw_at lw_m4 228 rfl) rfl
theorem q1025 : (Jvm.Cond.code ({ cls := "BridgeAuction$Network", name := "bridge", desc := "(I)LBridgeAuction$Bridge;" } : Jvm.MethodName) prog_5_method_5_code (2 : Nat) (Option.some (Jvm.ClassFile.FieldType.object "BridgeAuction$Bridge"))) ∈ lw_all := lw_g (lw_at lw_m4 229 rfl) rfl
theorem q1026 : (Jvm.Cond.constantLong "BridgeAuction$Network" (123 : Nat) (9 : Int64)) ∈ lw_all := lw_g (lw_at lw_m4 230 rfl) rfl
theorem q1027 : (Jvm.Cond.stringRef "BridgeAuction$Network" (125 : Nat) "priority") ∈ lw_tbl := lw_at lw_m4 231 rfl
theorem q1028 : (Jvm.Cond.methodLink "BridgeAuction$Network" (132 : Nat) ({ cls := "BridgeAuction$Bridge", name := "id", desc := "()I" } : Jvm.MethodName)) ∈ lw_all := lw_g (lw_at lw_m4 232 rfl) rfl
theorem q1029 : (Jvm.Cond.methodLink "BridgeAuction$Network" (135 : Nat) ({ cls := "BridgeAuction$Vector", name := "own", desc := "(I)LBridgeAuction$Vector;" } : Jvm.MethodName)) ∈ lw_all := lw_g (lw_at lw_m4 233 rfl) rfl
theorem q1033 : (Jvm.Cond.instanceMethod ({ cls := "BridgeAuction$Network", name := "moveHost", desc := "(II)I" } : Jvm.MethodName)) ∈ lw_all := lw_g (lw_at lw_m4 237 rfl) rfl
theorem q1034 : (Jvm.Cond.selects "BridgeAuction$Network" ({ cls := "BridgeAuction$Network", name := "moveHost", desc := "(II)I" } : Jvm.MethodName) ({ cls := "BridgeAuction$Network", name := "moveHost", desc := "(II)I" } : Jvm.MethodName)) ∈ lw_all := lw_g (lw_at lw_m4 238 rfl) rfl
theorem q1035 : (Jvm.Cond.code ({ cls := "BridgeAuction$Network", name := "moveHost", desc := "(II)I" } : Jvm.MethodName) prog_5_method_12_code (4 : Nat) (Option.some Jvm.ClassFile.FieldType.int)) ∈ lw_all := lw_g (lw_at lw_m4 239 rfl) rfl
theorem q1036 : (Jvm.Cond.constantLong "BridgeAuction$Network" (171 : Nat) (7 : Int64)) ∈ lw_all := lw_g (lw_at lw_m5 0 rfl) rfl
theorem q1037 : (Jvm.Cond.stringRef "BridgeAuction$Network" (173 : Nat) "host or bridge") ∈ lw_tbl := lw_at lw_m5 1 rfl
theorem q1041 : (Jvm.Cond.instanceMethod ({ cls := "BridgeAuction$Network", name := "tick", desc := "(I)I" } : Jvm.MethodName)) ∈ lw_all := lw_g (lw_at lw_m5 5 rfl) rfl
theorem q1042 : (Jvm.Cond.selects "BridgeAuction$Network" ({ cls := "BridgeAuction$Network", name := "tick", desc := "(I)I" } : Jvm.MethodName) ({ cls := "BridgeAuction$Network", name := "tick", desc := "(I)I" } : Jvm.MethodName)) ∈ lw_all := lw_g (lw_at lw_m5 6 rfl) rfl
theorem q1043 : (Jvm.Cond.code ({ cls := "BridgeAuction$Network", name := "tick", desc := "(I)I" } : Jvm.MethodName) prog_5_method_14_code (3 : Nat) (Option.some Jvm.ClassFile.FieldType.int)) ∈ lw_all := lw_g (lw_at lw_m5 7 rfl) rfl
theorem q1044 : (Jvm.Cond.constantLong "BridgeAuction$Network" (185 : Nat) (200 : Int64)) ∈ lw_all := lw_g (lw_at lw_m5 8 rfl) rfl
theorem q1045 : (Jvm.Cond.stringRef "BridgeAuction$Network" (187 : Nat) "ticks") ∈ lw_tbl := lw_at lw_m5 9 rfl
theorem q1046 : (Jvm.Cond.methodLink "BridgeAuction$Network" (189 : Nat) ({ cls := "BridgeAuction$Network", name := "tickOnce", desc := "()V" } : Jvm.MethodName)) ∈ lw_all := lw_g (lw_at lw_m5 10 rfl) rfl
theorem q1047 : (Jvm.Cond.privateMethod ({ cls := "BridgeAuction$Network", name := "tickOnce", desc := "()V" } : Jvm.MethodName)) ∈ lw_tbl := lw_at lw_m5 11 rfl
theorem q1048 : (Jvm.Cond.instanceMethod ({ cls := "BridgeAuction$Network", name := "tickOnce", desc := "()V" } : Jvm.MethodName)) ∈ lw_all := lw_g (lw_at lw_m5 12 rfl) rfl
theorem q1049 : (Jvm.Cond.code ({ cls := "BridgeAuction$Network", name := "tickOnce", desc := "()V" } : Jvm.MethodName) prog_5_method_15_code (4 : Nat) (Option.none : Option Jvm.ClassFile.FieldType)) ∈ lw_all := lw_g (lw_at lw_m5 13 rfl) rfl
theorem q1050 : (Jvm.Cond.methodLink "BridgeAuction$Network" (192 : Nat) ({ cls := "BridgeAuction$Network", name := "hold", desc := "()V" } : Jvm.MethodName)) ∈ lw_all := lw_g (lw_at lw_m5 14 rfl) rfl
theorem q1051 : (Jvm.Cond.privateMethod ({ cls := "BridgeAuction$Network", name := "hold", desc := "()V" } : Jvm.MethodName)) ∈ lw_tbl := lw_at lw_m5 15 rfl
theorem q1052 : (Jvm.Cond.instanceMethod ({ cls := "BridgeAuction$Network", name := "hold", desc := "()V" } : Jvm.MethodName)) ∈ lw_all := lw_g (lw_at lw_m5 16 rfl) rfl
theorem q1053 : (Jvm.Cond.code ({ cls := "BridgeAuction$Network", name := "hold", desc := "()V" } : Jvm.MethodName) prog_5_method_20_code (2 : Nat) (Option.none : Option Jvm.ClassFile.FieldType)) ∈ lw_all := lw_g (lw_at lw_m5 17 rfl) rfl
theorem q1054 : (Jvm.Cond.methodLink "BridgeAuction$Network" (267 : Nat) ({ cls := "BridgeAuction$Network", name := "sell", desc := "(LBridgeAuction$Link;)V" } : Jvm.MethodName)) ∈ lw_all := lw_g (lw_at lw_m5 18 rfl) rfl
theorem q1055 : (Jvm.Cond.privateMethod ({ cls := "BridgeAuction$Network", name := "sell", desc := "(LBridgeAuction$Link;)V" } : Jvm.MethodName)) ∈ lw_tbl := lw_at lw_m5 19 rfl
theorem q1056 : (Jvm.Cond.instanceMethod ({ cls := "BridgeAuction$Network", name := "sell", desc := "(LBridgeAuction$Link;)V" } : Jvm.MethodName)) ∈ lw_all := lw_g (lw_at lw_m5 20 rfl) rfl
theorem q1057 : (Jvm.Cond.code ({ cls := "BridgeAuction$Network", name := "sell", desc := "(LBridgeAuction$Link;)V" } : Jvm.MethodName) prog_5_method_21_code (6 : Nat) (Option.none : Option Jvm.ClassFile.FieldType)) ∈ lw_all := lw_g (lw_at lw_m5 21 rfl) rfl
theorem q1058 : (Jvm.Cond.methodLink "BridgeAuction$Network" (274 : Nat) ({ cls := "java/lang/Math", name := "max", desc := "(II)I" } : Jvm.MethodName)) ∈ lw_all := lw_g (lw_at lw_m5 22 rfl) rfl
theorem q1059 : (Jvm.Cond.methodLink "BridgeAuction$Network" (271 : Nat) ({ cls := "BridgeAuction$Link", name := "follow", desc := "(I)V" } : Jvm.MethodName)) ∈ lw_all := lw_g (lw_at lw_m5 23 rfl) rfl
theorem q1066 : (Jvm.Cond.methodLink "BridgeAuction$Network" (195 : Nat) ({ cls := "BridgeAuction$Network", name := "findVector", desc := "(LBridgeAuction$Bridge;)LBridgeAuction$Vector;" } : Jvm.MethodName)) ∈ lw_all := lw_g (lw_at lw_m5 30 rfl) rfl
theorem q1067 : (Jvm.Cond.privateMethod ({ cls := "BridgeAuction$Network", name := "findVector", desc := "(LBridgeAuction$Bridge;)LBridgeAuction$Vector;" } : Jvm.MethodName)) ∈ lw_tbl := lw_at lw_m5 31 rfl
theorem q1068 : (Jvm.Cond.instanceMethod ({ cls := "BridgeAuction$Network", name := "findVector", desc := "(LBridgeAuction$Bridge;)LBridgeAuction$Vector;" } : Jvm.MethodName)) ∈ lw_all := lw_g (lw_at lw_m5 32 rfl) rfl
theorem q1069 : (Jvm.Cond.code ({ cls := "BridgeAuction$Network", name := "findVector", desc := "(LBridgeAuction$Bridge;)LBridgeAuction$Vector;" } : Jvm.MethodName) prog_5_method_16_code (12 : Nat) (Option.some (Jvm.ClassFile.FieldType.object "BridgeAuction$Vector"))) ∈ lw_all := lw_g (lw_at lw_m5 33 rfl) rfl
theorem q1070 : (Jvm.Cond.methodLink "BridgeAuction$Network" (226 : Nat) ({ cls := "BridgeAuction$Link", name := "isAt", desc := "(I)Z" } : Jvm.MethodName)) ∈ lw_all := lw_g (lw_at lw_m5 34 rfl) rfl
theorem q1074 : (Jvm.Cond.methodLink "BridgeAuction$Network" (229 : Nat) ({ cls := "BridgeAuction$Link", name := "otherEnd", desc := "(I)I" } : Jvm.MethodName)) ∈ lw_all := lw_g (lw_at lw_m5 38 rfl) rfl
theorem q1078 : (Jvm.Cond.methodLink "BridgeAuction$Network" (243 : Nat) ({ cls := "BridgeAuction$Vector", name := "asTold", desc := "(IIIII)LBridgeAuction$Vector;" } : Jvm.MethodName)) ∈ lw_all := lw_g (lw_at lw_m5 42 rfl) rfl
theorem q1082 : (Jvm.Cond.methodLink "BridgeAuction$Network" (212 : Nat) ({ cls := "BridgeAuction$Network", name := "goOn", desc := "(LBridgeAuction$Link;ILBridgeAuction$Port;LBridgeAuction$Bridge;LBridgeAuction$Bridge;[Z)[Z" } : Jvm.MethodName)) ∈ lw_all := lw_g (lw_at lw_m5 46 rfl) rfl
theorem q1083 : (Jvm.Cond.privateMethod ({ cls := "BridgeAuction$Network", name := "goOn", desc := "(LBridgeAuction$Link;ILBridgeAuction$Port;LBridgeAuction$Bridge;LBridgeAuction$Bridge;[Z)[Z" } : Jvm.MethodName)) ∈ lw_tbl := lw_at lw_m5 47 rfl
theorem q1084 : (Jvm.Cond.instanceMethod ({ cls := "BridgeAuction$Network", name := "goOn", desc := "(LBridgeAuction$Link;ILBridgeAuction$Port;LBridgeAuction$Bridge;LBridgeAuction$Bridge;[Z)[Z" } : Jvm.MethodName)) ∈ lw_all := lw_g (lw_at lw_m5 48 rfl) rfl
theorem q1085 : (Jvm.Cond.code ({ cls := "BridgeAuction$Network", name := "goOn", desc := "(LBridgeAuction$Link;ILBridgeAuction$Port;LBridgeAuction$Bridge;LBridgeAuction$Bridge;[Z)[Z" } : Jvm.MethodName) prog_5_method_17_code (9 : Nat) (Option.some (Jvm.ClassFile.FieldType.array Jvm.ClassFile.FieldType.boolean))) ∈ lw_all := lw_g (lw_at lw_m5 49 rfl) rfl
theorem q1138 : (Jvm.Cond.methodLink "BridgeAuction$Network" (253 : Nat) ({ cls := "BridgeAuction$Port", name := "goOn", desc := "(II)Z" } : Jvm.MethodName)) ∈ lw_all := lw_g (lw_at lw_m5 102 rfl) rfl
theorem q1146 : (Jvm.Cond.methodLink "BridgeAuction$Network" (219 : Nat) ({ cls := "BridgeAuction$Network", name := "flush", desc := "([Z)V" } : Jvm.MethodName)) ∈ lw_all := lw_g (lw_at lw_m5 110 rfl) rfl
theorem q1147 : (Jvm.Cond.privateMethod ({ cls := "BridgeAuction$Network", name := "flush", desc := "([Z)V" } : Jvm.MethodName)) ∈ lw_tbl := lw_at lw_m5 111 rfl
theorem q1148 : (Jvm.Cond.instanceMethod ({ cls := "BridgeAuction$Network", name := "flush", desc := "([Z)V" } : Jvm.MethodName)) ∈ lw_all := lw_g (lw_at lw_m5 112 rfl) rfl
theorem q1149 : (Jvm.Cond.code ({ cls := "BridgeAuction$Network", name := "flush", desc := "([Z)V" } : Jvm.MethodName) prog_5_method_19_code (3 : Nat) (Option.none : Option Jvm.ClassFile.FieldType)) ∈ lw_all := lw_g (lw_at lw_m5 113 rfl) rfl
theorem q1150 : (Jvm.Cond.methodLink "BridgeAuction$Network" (265 : Nat) ({ cls := "BridgeAuction$Bridge", name := "flush", desc := "()V" } : Jvm.MethodName)) ∈ lw_all := lw_g (lw_at lw_m5 114 rfl) rfl
theorem q1159 : (Jvm.Cond.instanceMethod ({ cls := "BridgeAuction$Network", name := "copy", desc := "()LBridgeAuction$Network;" } : Jvm.MethodName)) ∈ lw_all := lw_g (lw_at lw_m5 123 rfl) rfl
theorem q1160 : (Jvm.Cond.selects "BridgeAuction$Network" ({ cls := "BridgeAuction$Network", name := "copy", desc := "()LBridgeAuction$Network;" } : Jvm.MethodName) ({ cls := "BridgeAuction$Network", name := "copy", desc := "()LBridgeAuction$Network;" } : Jvm.MethodName)) ∈ lw_all := lw_g (lw_at lw_m5 124 rfl) rfl
theorem q1161 : (Jvm.Cond.code ({ cls := "BridgeAuction$Network", name := "copy", desc := "()LBridgeAuction$Network;" } : Jvm.MethodName) prog_5_method_2_code (4 : Nat) (Option.some (Jvm.ClassFile.FieldType.object "BridgeAuction$Network"))) ∈ lw_all := lw_g (lw_at lw_m5 125 rfl) rfl
theorem q1162 : (Jvm.Cond.methodLink "BridgeAuction$Network" (55 : Nat) ({ cls := "BridgeAuction$Bridge", name := "copy", desc := "()LBridgeAuction$Bridge;" } : Jvm.MethodName)) ∈ lw_all := lw_g (lw_at lw_m5 126 rfl) rfl
theorem q1169 : (Jvm.Cond.methodLink "BridgeAuction$Network" (65 : Nat) ({ cls := "BridgeAuction$Link", name := "copy", desc := "()LBridgeAuction$Link;" } : Jvm.MethodName)) ∈ lw_all := lw_g (lw_at lw_m5 133 rfl) rfl
theorem q1180 : (Jvm.Cond.methodLink "BridgeAuction$Network" (68 : Nat) ({ cls := "java/lang/System", name := "arraycopy", desc := "(Ljava/lang/Object;ILjava/lang/Object;II)V" } : Jvm.MethodName)) ∈ lw_all := lw_g (lw_at lw_m5 144 rfl) rfl
theorem q1246 : (Jvm.Cond.instanceMethod ({ cls := "BridgeAuction$Network", name := "tenantValue", desc := "(II)I" } : Jvm.MethodName)) ∈ lw_all := lw_g (lw_at lw_m5 210 rfl) rfl
theorem q1247 : (Jvm.Cond.selects "BridgeAuction$Network" ({ cls := "BridgeAuction$Network", name := "tenantValue", desc := "(II)I" } : Jvm.MethodName) ({ cls := "BridgeAuction$Network", name := "tenantValue", desc := "(II)I" } : Jvm.MethodName)) ∈ lw_all := lw_g (lw_at lw_m5 211 rfl) rfl
theorem q1248 : (Jvm.Cond.code ({ cls := "BridgeAuction$Network", name := "tenantValue", desc := "(II)I" } : Jvm.MethodName) prog_5_method_30_code (3 : Nat) (Option.some Jvm.ClassFile.FieldType.int)) ∈ lw_all := lw_g (lw_at lw_m5 212 rfl) rfl
theorem q1249 : (Jvm.Cond.methodLink "BridgeAuction$Network" (303 : Nat) ({ cls := "BridgeAuction$Network", name := "won", desc := "(I)I" } : Jvm.MethodName)) ∈ lw_all := lw_g (lw_at lw_m5 213 rfl) rfl
theorem q1250 : (Jvm.Cond.instanceMethod ({ cls := "BridgeAuction$Network", name := "won", desc := "(I)I" } : Jvm.MethodName)) ∈ lw_all := lw_g (lw_at lw_m5 214 rfl) rfl
theorem q1251 : (Jvm.Cond.selects "BridgeAuction$Network" ({ cls := "BridgeAuction$Network", name := "won", desc := "(I)I" } : Jvm.MethodName) ({ cls := "BridgeAuction$Network", name := "won", desc := "(I)I" } : Jvm.MethodName)) ∈ lw_all := lw_g (lw_at lw_m5 215 rfl) rfl
theorem q1252 : (Jvm.Cond.code ({ cls := "BridgeAuction$Network", name := "won", desc := "(I)I" } : Jvm.MethodName) prog_5_method_29_code (4 : Nat) (Option.some Jvm.ClassFile.FieldType.int)) ∈ lw_all := lw_g (lw_at lw_m5 216 rfl) rfl
theorem q1254 : (Jvm.Cond.instanceMethod ({ cls := "BridgeAuction$Network", name := "count", desc := "(I)I" } : Jvm.MethodName)) ∈ lw_all := lw_g (lw_at lw_m5 218 rfl) rfl
theorem q1255 : (Jvm.Cond.selects "BridgeAuction$Network" ({ cls := "BridgeAuction$Network", name := "count", desc := "(I)I" } : Jvm.MethodName) ({ cls := "BridgeAuction$Network", name := "count", desc := "(I)I" } : Jvm.MethodName)) ∈ lw_all := lw_g (lw_at lw_m5 219 rfl) rfl
theorem q1256 : (Jvm.Cond.code ({ cls := "BridgeAuction$Network", name := "count", desc := "(I)I" } : Jvm.MethodName) prog_5_method_24_code (2 : Nat) (Option.some Jvm.ClassFile.FieldType.int)) ∈ lw_all := lw_g (lw_at lw_m5 220 rfl) rfl
theorem q1257 : (Jvm.Cond.methodLink "BridgeAuction$Network" (297 : Nat) ({ cls := "BridgeAuction$Network", name := "pairs", desc := "()I" } : Jvm.MethodName)) ∈ lw_all := lw_g (lw_at lw_m5 221 rfl) rfl
theorem q1258 : (Jvm.Cond.privateMethod ({ cls := "BridgeAuction$Network", name := "pairs", desc := "()I" } : Jvm.MethodName)) ∈ lw_tbl := lw_at lw_m5 222 rfl
theorem q1259 : (Jvm.Cond.instanceMethod ({ cls := "BridgeAuction$Network", name := "pairs", desc := "()I" } : Jvm.MethodName)) ∈ lw_all := lw_g (lw_at lw_m5 223 rfl) rfl
theorem q1260 : (Jvm.Cond.code ({ cls := "BridgeAuction$Network", name := "pairs", desc := "()I" } : Jvm.MethodName) prog_5_method_27_code (3 : Nat) (Option.some Jvm.ClassFile.FieldType.int)) ∈ lw_all := lw_g (lw_at lw_m5 224 rfl) rfl
theorem q1261 : (Jvm.Cond.methodLink "BridgeAuction$Network" (300 : Nat) ({ cls := "BridgeAuction$Network", name := "reachedFrom", desc := "(I)I" } : Jvm.MethodName)) ∈ lw_all := lw_g (lw_at lw_m5 225 rfl) rfl
theorem q1262 : (Jvm.Cond.privateMethod ({ cls := "BridgeAuction$Network", name := "reachedFrom", desc := "(I)I" } : Jvm.MethodName)) ∈ lw_tbl := lw_at lw_m5 226 rfl
theorem q1263 : (Jvm.Cond.instanceMethod ({ cls := "BridgeAuction$Network", name := "reachedFrom", desc := "(I)I" } : Jvm.MethodName)) ∈ lw_all := lw_g (lw_at lw_m5 227 rfl) rfl
theorem q1264 : (Jvm.Cond.code ({ cls := "BridgeAuction$Network", name := "reachedFrom", desc := "(I)I" } : Jvm.MethodName) prog_5_method_26_code (8 : Nat) (Option.some Jvm.ClassFile.FieldType.int)) ∈ lw_all := lw_g (lw_at lw_m5 228 rfl) rfl
theorem q1366 : (Jvm.Cond.instanceMethod ({ cls := "BridgeAuction$Network", name := "send", desc := "(II)I" } : Jvm.MethodName)) ∈ lw_all := lw_g (lw_at lw_m6 90 rfl) rfl
theorem q1367 : (Jvm.Cond.selects "BridgeAuction$Network" ({ cls := "BridgeAuction$Network", name := "send", desc := "(II)I" } : Jvm.MethodName) ({ cls := "BridgeAuction$Network", name := "send", desc := "(II)I" } : Jvm.MethodName)) ∈ lw_all := lw_g (lw_at lw_m6 91 rfl) rfl
theorem q1368 : (Jvm.Cond.code ({ cls := "BridgeAuction$Network", name := "send", desc := "(II)I" } : Jvm.MethodName) prog_5_method_22_code (15 : Nat) (Option.some Jvm.ClassFile.FieldType.int)) ∈ lw_all := lw_g (lw_at lw_m6 92 rfl) rfl
theorem q1369 : (Jvm.Cond.stringRef "BridgeAuction$Network" (280 : Nat) "host") ∈ lw_tbl := lw_at lw_m6 93 rfl
theorem q1370 : (Jvm.Cond.stringRef "BridgeAuction$Network" (282 : Nat) "hosts") ∈ lw_tbl := lw_at lw_m6 94 rfl
theorem q1371 : (Jvm.Cond.methodLink "BridgeAuction$Network" (284 : Nat) ({ cls := "BridgeAuction$Bridge", name := "learn", desc := "(III)V" } : Jvm.MethodName)) ∈ lw_all := lw_g (lw_at lw_m6 95 rfl) rfl
theorem q1375 : (Jvm.Cond.methodLink "BridgeAuction$Network" (287 : Nat) ({ cls := "BridgeAuction$Network", name := "wayTo", desc := "(LBridgeAuction$Bridge;II)I" } : Jvm.MethodName)) ∈ lw_all := lw_g (lw_at lw_m6 99 rfl) rfl
theorem q1376 : (Jvm.Cond.privateMethod ({ cls := "BridgeAuction$Network", name := "wayTo", desc := "(LBridgeAuction$Bridge;II)I" } : Jvm.MethodName)) ∈ lw_tbl := lw_at lw_m6 100 rfl
theorem q1377 : (Jvm.Cond.instanceMethod ({ cls := "BridgeAuction$Network", name := "wayTo", desc := "(LBridgeAuction$Bridge;II)I" } : Jvm.MethodName)) ∈ lw_all := lw_g (lw_at lw_m6 101 rfl) rfl
theorem q1378 : (Jvm.Cond.code ({ cls := "BridgeAuction$Network", name := "wayTo", desc := "(LBridgeAuction$Bridge;II)I" } : Jvm.MethodName) prog_5_method_23_code (5 : Nat) (Option.some Jvm.ClassFile.FieldType.int)) ∈ lw_all := lw_g (lw_at lw_m6 102 rfl) rfl
theorem q1379 : (Jvm.Cond.methodLink "BridgeAuction$Network" (291 : Nat) ({ cls := "BridgeAuction$Bridge", name := "entry", desc := "(II)I" } : Jvm.MethodName)) ∈ lw_all := lw_g (lw_at lw_m6 103 rfl) rfl
theorem q1870 : (Jvm.Cond.castable "BridgeAuction$Network" "java/lang/Object") ∈ lw_tbl := lw_at lw_m8 114 rfl
theorem in_X2 : ∀ w ∈ wsX20, w ∈ lw_all := lw_in wsX20 [175, 177, 179, 181, 183, 185, 187, 189, 191, 193, 195, 197, 199, 201, 203] (by decide +kernel) (by decide +kernel)
theorem q79 : (Jvm.Cond.initialized "java/util/AbstractCollection") ∈ lw_all := lw_g (lw_at lw_m1 3 rfl) rfl
theorem q135 : (Jvm.Cond.instanceMethod ({ cls := "java/util/AbstractCollection", name := "<init>", desc := "()V" } : Jvm.MethodName)) ∈ lw_all := lw_g (lw_at lw_m1 59 rfl) rfl
theorem q136 : (Jvm.Cond.code ({ cls := "java/util/AbstractCollection", name := "<init>", desc := "()V" } : Jvm.MethodName) prog_37_method_1_code (1 : Nat) (Option.none : Option Jvm.ClassFile.FieldType)) ∈ lw_all := lw_g (lw_at lw_m1 60 rfl) rfl
theorem q137 : (Jvm.Cond.methodLink "java/util/AbstractCollection" (1 : Nat) ({ cls := "java/lang/Object", name := "<init>", desc := "()V" } : Jvm.MethodName)) ∈ lw_all := lw_g (lw_at lw_m1 61 rfl) rfl
theorem q80 : (Jvm.Cond.initialized "java/util/AbstractList") ∈ lw_all := lw_g (lw_at lw_m1 4 rfl) rfl
theorem q132 : (Jvm.Cond.instanceMethod ({ cls := "java/util/AbstractList", name := "<init>", desc := "()V" } : Jvm.MethodName)) ∈ lw_all := lw_g (lw_at lw_m1 56 rfl) rfl
theorem q133 : (Jvm.Cond.code ({ cls := "java/util/AbstractList", name := "<init>", desc := "()V" } : Jvm.MethodName) prog_38_method_1_code (1 : Nat) (Option.none : Option Jvm.ClassFile.FieldType)) ∈ lw_all := lw_g (lw_at lw_m1 57 rfl) rfl
theorem q134 : (Jvm.Cond.methodLink "java/util/AbstractList" (1 : Nat) ({ cls := "java/util/AbstractCollection", name := "<init>", desc := "()V" } : Jvm.MethodName)) ∈ lw_all := lw_g (lw_at lw_m1 58 rfl) rfl
theorem q142 : (Jvm.Cond.fieldLink "java/util/AbstractList" (7 : Nat) "java/util/AbstractList" "modCount" "I") ∈ lw_all := lw_g (lw_at lw_m1 66 rfl) rfl
theorem q150 : (Jvm.Cond.soleField "java/util/AbstractList" "modCount") ∈ lw_all := lw_g (lw_at lw_m1 74 rfl) rfl
theorem q81 : (Jvm.Cond.initialized "java/util/ArrayList") ∈ lw_all := lw_g (lw_at lw_m1 5 rfl) rfl
theorem q127 : (Jvm.Cond.instantiable "java/util/ArrayList" (3 : Nat)) ∈ lw_all := lw_g (lw_at lw_m1 51 rfl) rfl
theorem q129 : (Jvm.Cond.instanceMethod ({ cls := "java/util/ArrayList", name := "<init>", desc := "()V" } : Jvm.MethodName)) ∈ lw_all := lw_g (lw_at lw_m1 53 rfl) rfl
theorem q130 : (Jvm.Cond.code ({ cls := "java/util/ArrayList", name := "<init>", desc := "()V" } : Jvm.MethodName) prog_39_method_2_code (1 : Nat) (Option.none : Option Jvm.ClassFile.FieldType)) ∈ lw_all := lw_g (lw_at lw_m1 54 rfl) rfl
theorem q131 : (Jvm.Cond.methodLink "java/util/ArrayList" (1 : Nat) ({ cls := "java/util/AbstractList", name := "<init>", desc := "()V" } : Jvm.MethodName)) ∈ lw_all := lw_g (lw_at lw_m1 55 rfl) rfl
theorem q138 : (Jvm.Cond.fieldLink "java/util/ArrayList" (39 : Nat) "java/util/ArrayList" "DEFAULTCAPACITY_EMPTY_ELEMENTDATA" "[Ljava/lang/Object;") ∈ lw_all := lw_g (lw_at lw_m1 62 rfl) rfl
theorem q139 : (Jvm.Cond.laysStatic "java/util/ArrayList" "DEFAULTCAPACITY_EMPTY_ELEMENTDATA" "[Ljava/lang/Object;") ∈ lw_tbl := lw_at lw_m1 63 rfl
theorem q140 : (Jvm.Cond.fieldLink "java/util/ArrayList" (9 : Nat) "java/util/ArrayList" "elementData" "[Ljava/lang/Object;") ∈ lw_all := lw_g (lw_at lw_m1 64 rfl) rfl
theorem q141 : (Jvm.Cond.fieldLink "java/util/ArrayList" (48 : Nat) "java/util/ArrayList" "size" "I") ∈ lw_all := lw_g (lw_at lw_m1 65 rfl) rfl
theorem q143 : (Jvm.Cond.fieldLink "java/util/ArrayList" (63 : Nat) "java/util/ArrayList" "modCount" "I") ∈ lw_all := lw_g (lw_at lw_m1 67 rfl) rfl
theorem q144 : (Jvm.Cond.sameField "java/util/ArrayList" "java/util/AbstractList" "modCount" "I") ∈ lw_all := lw_g (lw_at lw_m1 68 rfl) rfl
theorem q145 : (Jvm.Cond.lays "java/util/ArrayList" "java/util/ArrayList" "elementData" "[Ljava/lang/Object;") ∈ lw_all := lw_g (lw_at lw_m1 69 rfl) rfl
theorem q146 : (Jvm.Cond.soleField "java/util/ArrayList" "elementData") ∈ lw_all := lw_g (lw_at lw_m1 70 rfl) rfl
theorem q147 : (Jvm.Cond.lays "java/util/ArrayList" "java/util/ArrayList" "size" "I") ∈ lw_all := lw_g (lw_at lw_m1 71 rfl) rfl
theorem q148 : (Jvm.Cond.soleField "java/util/ArrayList" "size") ∈ lw_all := lw_g (lw_at lw_m1 72 rfl) rfl
theorem q149 : (Jvm.Cond.lays "java/util/ArrayList" "java/util/AbstractList" "modCount" "I") ∈ lw_all := lw_g (lw_at lw_m1 73 rfl) rfl
theorem q151 : (Jvm.Cond.superclass "java/util/ArrayList" "java/util/AbstractList") ∈ lw_all := lw_g (lw_at lw_m1 75 rfl) rfl
theorem q280 : (Jvm.Cond.instanceMethod ({ cls := "java/util/ArrayList", name := "add", desc := "(Ljava/lang/Object;)Z" } : Jvm.MethodName)) ∈ lw_all := lw_g (lw_at lw_m1 204 rfl) rfl
theorem q281 : (Jvm.Cond.selects "java/util/ArrayList" ({ cls := "java/util/ArrayList", name := "add", desc := "(Ljava/lang/Object;)Z" } : Jvm.MethodName) ({ cls := "java/util/ArrayList", name := "add", desc := "(Ljava/lang/Object;)Z" } : Jvm.MethodName)) ∈ lw_all := lw_g (lw_at lw_m1 205 rfl) rfl
theorem q282 : (Jvm.Cond.code ({ cls := "java/util/ArrayList", name := "add", desc := "(Ljava/lang/Object;)Z" } : Jvm.MethodName) prog_39_method_25_code (2 : Nat) (Option.some Jvm.ClassFile.FieldType.boolean)) ∈ lw_all := lw_g (lw_at lw_m1 206 rfl) rfl
theorem q283 : (Jvm.Cond.methodLink "java/util/ArrayList" (131 : Nat) ({ cls := "java/util/ArrayList", name := "add", desc := "(Ljava/lang/Object;[Ljava/lang/Object;I)V" } : Jvm.MethodName)) ∈ lw_all := lw_g (lw_at lw_m1 207 rfl) rfl
theorem q284 : (Jvm.Cond.privateMethod ({ cls := "java/util/ArrayList", name := "add", desc := "(Ljava/lang/Object;[Ljava/lang/Object;I)V" } : Jvm.MethodName)) ∈ lw_tbl := lw_at lw_m1 208 rfl
theorem q285 : (Jvm.Cond.instanceMethod ({ cls := "java/util/ArrayList", name := "add", desc := "(Ljava/lang/Object;[Ljava/lang/Object;I)V" } : Jvm.MethodName)) ∈ lw_all := lw_g (lw_at lw_m1 209 rfl) rfl
theorem q286 : (Jvm.Cond.code ({ cls := "java/util/ArrayList", name := "add", desc := "(Ljava/lang/Object;[Ljava/lang/Object;I)V" } : Jvm.MethodName) prog_39_method_24_code (4 : Nat) (Option.none : Option Jvm.ClassFile.FieldType)) ∈ lw_all := lw_g (lw_at lw_m1 210 rfl) rfl
theorem q287 : (Jvm.Cond.methodLink "java/util/ArrayList" (129 : Nat) ({ cls := "java/util/ArrayList", name := "grow", desc := "()[Ljava/lang/Object;" } : Jvm.MethodName)) ∈ lw_all := lw_g (lw_at lw_m1 211 rfl) rfl
theorem q288 : (Jvm.Cond.privateMethod ({ cls := "java/util/ArrayList", name := "grow", desc := "()[Ljava/lang/Object;" } : Jvm.MethodName)) ∈ lw_tbl := lw_at lw_m1 212 rfl
theorem q289 : (Jvm.Cond.instanceMethod ({ cls := "java/util/ArrayList", name := "grow", desc := "()[Ljava/lang/Object;" } : Jvm.MethodName)) ∈ lw_all := lw_g (lw_at lw_m1 213 rfl) rfl
theorem q290 : (Jvm.Cond.code ({ cls := "java/util/ArrayList", name := "grow", desc := "()[Ljava/lang/Object;" } : Jvm.MethodName) prog_39_method_7_code (1 : Nat) (Option.some (Jvm.ClassFile.FieldType.array (Jvm.ClassFile.FieldType.object "java/lang/Object")))) ∈ lw_all := lw_g (lw_at lw_m1 214 rfl) rfl
theorem q291 : (Jvm.Cond.methodLink "java/util/ArrayList" (69 : Nat) ({ cls := "java/util/ArrayList", name := "grow", desc := "(I)[Ljava/lang/Object;" } : Jvm.MethodName)) ∈ lw_all := lw_g (lw_at lw_m1 215 rfl) rfl
theorem q292 : (Jvm.Cond.privateMethod ({ cls := "java/util/ArrayList", name := "grow", desc := "(I)[Ljava/lang/Object;" } : Jvm.MethodName)) ∈ lw_tbl := lw_at lw_m1 216 rfl
theorem q293 : (Jvm.Cond.instanceMethod ({ cls := "java/util/ArrayList", name := "grow", desc := "(I)[Ljava/lang/Object;" } : Jvm.MethodName)) ∈ lw_all := lw_g (lw_at lw_m1 217 rfl) rfl
theorem q294 : (Jvm.Cond.code ({ cls := "java/util/ArrayList", name := "grow", desc := "(I)[Ljava/lang/Object;" } : Jvm.MethodName) prog_39_method_6_code (4 : Nat) (Option.some (Jvm.ClassFile.FieldType.array (Jvm.ClassFile.FieldType.object "java/lang/Object")))) ∈ lw_all := lw_g (lw_at lw_m1 218 rfl) rfl
theorem q295 : (Jvm.Cond.methodLink "java/util/ArrayList" (73 : Nat) ({ cls := "jdk/internal/util/ArraysSupport", name := "newLength", desc := "(III)I" } : Jvm.MethodName)) ∈ lw_all := lw_g (lw_at lw_m1 219 rfl) rfl
theorem q305 : (Jvm.Cond.methodLink "java/util/ArrayList" (66 : Nat) ({ cls := "java/util/Arrays", name := "copyOf", desc := "([Ljava/lang/Object;I)[Ljava/lang/Object;" } : Jvm.MethodName)) ∈ lw_all := lw_g (lw_at lw_m1 229 rfl) rfl
theorem q326 : (Jvm.Cond.selects "java/util/ArrayList" ({ cls := "java/lang/Object", name := "getClass", desc := "()Ljava/lang/Class;" } : Jvm.MethodName) ({ cls := "java/lang/Object", name := "getClass", desc := "()Ljava/lang/Class;" } : Jvm.MethodName)) ∈ lw_all := lw_g (lw_at lw_m2 10 rfl) rfl
theorem q340 : (Jvm.Cond.methodLink "java/util/ArrayList" (79 : Nat) ({ cls := "java/lang/Math", name := "max", desc := "(II)I" } : Jvm.MethodName)) ∈ lw_all := lw_g (lw_at lw_m2 24 rfl) rfl
theorem q341 : (Jvm.Cond.classLink "java/util/ArrayList" (7 : Nat) "java/lang/Object") ∈ lw_all := lw_g (lw_at lw_m2 25 rfl) rfl
theorem q373 : (Jvm.Cond.instanceMethod ({ cls := "java/util/ArrayList", name := "size", desc := "()I" } : Jvm.MethodName)) ∈ lw_all := lw_g (lw_at lw_m2 57 rfl) rfl
theorem q374 : (Jvm.Cond.selects "java/util/ArrayList" ({ cls := "java/util/ArrayList", name := "size", desc := "()I" } : Jvm.MethodName) ({ cls := "java/util/ArrayList", name := "size", desc := "()I" } : Jvm.MethodName)) ∈ lw_all := lw_g (lw_at lw_m2 58 rfl) rfl
theorem q375 : (Jvm.Cond.code ({ cls := "java/util/ArrayList", name := "size", desc := "()I" } : Jvm.MethodName) prog_39_method_8_code (1 : Nat) (Option.some Jvm.ClassFile.FieldType.int)) ∈ lw_all := lw_g (lw_at lw_m2 59 rfl) rfl
theorem q390 : (Jvm.Cond.instanceMethod ({ cls := "java/util/ArrayList", name := "get", desc := "(I)Ljava/lang/Object;" } : Jvm.MethodName)) ∈ lw_all := lw_g (lw_at lw_m2 74 rfl) rfl
theorem q391 : (Jvm.Cond.selects "java/util/ArrayList" ({ cls := "java/util/ArrayList", name := "get", desc := "(I)Ljava/lang/Object;" } : Jvm.MethodName) ({ cls := "java/util/ArrayList", name := "get", desc := "(I)Ljava/lang/Object;" } : Jvm.MethodName)) ∈ lw_all := lw_g (lw_at lw_m2 75 rfl) rfl
theorem q392 : (Jvm.Cond.code ({ cls := "java/util/ArrayList", name := "get", desc := "(I)Ljava/lang/Object;" } : Jvm.MethodName) prog_39_method_20_code (2 : Nat) (Option.some (Jvm.ClassFile.FieldType.object "java/lang/Object"))) ∈ lw_all := lw_g (lw_at lw_m2 76 rfl) rfl
theorem q393 : (Jvm.Cond.methodLink "java/util/ArrayList" (118 : Nat) ({ cls := "java/util/Objects", name := "checkIndex", desc := "(II)I" } : Jvm.MethodName)) ∈ lw_all := lw_g (lw_at lw_m2 77 rfl) rfl
theorem q399 : (Jvm.Cond.methodLink "java/util/ArrayList" (123 : Nat) ({ cls := "java/util/ArrayList", name := "elementData", desc := "(I)Ljava/lang/Object;" } : Jvm.MethodName)) ∈ lw_all := lw_g (lw_at lw_m2 83 rfl) rfl
theorem q400 : (Jvm.Cond.instanceMethod ({ cls := "java/util/ArrayList", name := "elementData", desc := "(I)Ljava/lang/Object;" } : Jvm.MethodName)) ∈ lw_all := lw_g (lw_at lw_m2 84 rfl) rfl
theorem q401 : (Jvm.Cond.selects "java/util/ArrayList" ({ cls := "java/util/ArrayList", name := "elementData", desc := "(I)Ljava/lang/Object;" } : Jvm.MethodName) ({ cls := "java/util/ArrayList", name := "elementData", desc := "(I)Ljava/lang/Object;" } : Jvm.MethodName)) ∈ lw_all := lw_g (lw_at lw_m2 85 rfl) rfl
theorem q402 : (Jvm.Cond.code ({ cls := "java/util/ArrayList", name := "elementData", desc := "(I)Ljava/lang/Object;" } : Jvm.MethodName) prog_39_method_18_code (2 : Nat) (Option.some (Jvm.ClassFile.FieldType.object "java/lang/Object"))) ∈ lw_all := lw_g (lw_at lw_m2 86 rfl) rfl
theorem q1872 : (Jvm.Cond.castable "java/util/ArrayList" "java/lang/Object") ∈ lw_tbl := lw_at lw_m8 116 rfl
theorem in_J2 : ∀ w ∈ wsJ20, w ∈ lw_all := lw_in wsJ20 [149, 145, 147] (by decide +kernel) (by decide +kernel)
theorem q82 : (Jvm.Cond.initialized "BridgeAuction$Bridge") ∈ lw_all := lw_g (lw_at lw_m1 6 rfl) rfl
theorem q208 : (Jvm.Cond.instantiable "BridgeAuction$Bridge" (6 : Nat)) ∈ lw_all := lw_g (lw_at lw_m1 132 rfl) rfl
theorem q210 : (Jvm.Cond.instanceMethod ({ cls := "BridgeAuction$Bridge", name := "<init>", desc := "(I)V" } : Jvm.MethodName)) ∈ lw_all := lw_g (lw_at lw_m1 134 rfl) rfl
theorem q211 : (Jvm.Cond.code ({ cls := "BridgeAuction$Bridge", name := "<init>", desc := "(I)V" } : Jvm.MethodName) prog_2_method_1_code (2 : Nat) (Option.none : Option Jvm.ClassFile.FieldType)) ∈ lw_all := lw_g (lw_at lw_m1 135 rfl) rfl
theorem q212 : (Jvm.Cond.methodLink "BridgeAuction$Bridge" (3 : Nat) ({ cls := "java/lang/Object", name := "<init>", desc := "()V" } : Jvm.MethodName)) ∈ lw_all := lw_g (lw_at lw_m1 136 rfl) rfl
theorem q213 : (Jvm.Cond.methodLink "BridgeAuction$Bridge" (25 : Nat) ({ cls := "BridgeAuction$Bridge", name := "id", desc := "()I" } : Jvm.MethodName)) ∈ lw_all := lw_g (lw_at lw_m1 137 rfl) rfl
theorem q214 : (Jvm.Cond.instanceMethod ({ cls := "BridgeAuction$Bridge", name := "id", desc := "()I" } : Jvm.MethodName)) ∈ lw_all := lw_g (lw_at lw_m1 138 rfl) rfl
theorem q215 : (Jvm.Cond.selects "BridgeAuction$Bridge" ({ cls := "BridgeAuction$Bridge", name := "id", desc := "()I" } : Jvm.MethodName) ({ cls := "BridgeAuction$Bridge", name := "id", desc := "()I" } : Jvm.MethodName)) ∈ lw_all := lw_g (lw_at lw_m1 139 rfl) rfl
theorem q216 : (Jvm.Cond.code ({ cls := "BridgeAuction$Bridge", name := "id", desc := "()I" } : Jvm.MethodName) prog_2_method_3_code (1 : Nat) (Option.some Jvm.ClassFile.FieldType.int)) ∈ lw_all := lw_g (lw_at lw_m1 140 rfl) rfl
theorem q217 : (Jvm.Cond.methodLink "BridgeAuction$Bridge" (29 : Nat) ({ cls := "BridgeAuction$Vector", name := "own", desc := "(I)LBridgeAuction$Vector;" } : Jvm.MethodName)) ∈ lw_all := lw_g (lw_at lw_m1 141 rfl) rfl
theorem q227 : (Jvm.Cond.fieldLinkNest "BridgeAuction$Bridge" (51 : Nat) "BridgeAuction$Vector" "root" "I" "BridgeAuction") ∈ lw_tbl := lw_at lw_m1 151 rfl
theorem q230 : (Jvm.Cond.fieldLinkNest "BridgeAuction$Bridge" (54 : Nat) "BridgeAuction$Vector" "cost" "I" "BridgeAuction") ∈ lw_tbl := lw_at lw_m1 154 rfl
theorem q234 : (Jvm.Cond.fieldLinkNest "BridgeAuction$Bridge" (63 : Nat) "BridgeAuction$Vector" "age" "I" "BridgeAuction") ∈ lw_tbl := lw_at lw_m1 158 rfl
theorem q237 : (Jvm.Cond.fieldLinkNest "BridgeAuction$Bridge" (66 : Nat) "BridgeAuction$Vector" "link" "I" "BridgeAuction") ∈ lw_tbl := lw_at lw_m1 161 rfl
theorem q250 : (Jvm.Cond.methodLink "BridgeAuction$Bridge" (39 : Nat) ({ cls := "BridgeAuction$Bridge", name := "flush", desc := "()V" } : Jvm.MethodName)) ∈ lw_all := lw_g (lw_at lw_m1 174 rfl) rfl
theorem q251 : (Jvm.Cond.instanceMethod ({ cls := "BridgeAuction$Bridge", name := "flush", desc := "()V" } : Jvm.MethodName)) ∈ lw_all := lw_g (lw_at lw_m1 175 rfl) rfl
theorem q252 : (Jvm.Cond.selects "BridgeAuction$Bridge" ({ cls := "BridgeAuction$Bridge", name := "flush", desc := "()V" } : Jvm.MethodName) ({ cls := "BridgeAuction$Bridge", name := "flush", desc := "()V" } : Jvm.MethodName)) ∈ lw_all := lw_g (lw_at lw_m1 176 rfl) rfl
theorem q253 : (Jvm.Cond.code ({ cls := "BridgeAuction$Bridge", name := "flush", desc := "()V" } : Jvm.MethodName) prog_2_method_7_code (1 : Nat) (Option.none : Option Jvm.ClassFile.FieldType)) ∈ lw_all := lw_g (lw_at lw_m1 177 rfl) rfl
theorem q254 : (Jvm.Cond.methodLink "BridgeAuction$Bridge" (57 : Nat) ({ cls := "java/util/Arrays", name := "fill", desc := "([II)V" } : Jvm.MethodName)) ∈ lw_all := lw_g (lw_at lw_m1 178 rfl) rfl
theorem q257 : (Jvm.Cond.fieldLink "BridgeAuction$Bridge" (22 : Nat) "BridgeAuction$Bridge" "number" "I") ∈ lw_all := lw_g (lw_at lw_m1 181 rfl) rfl
theorem q259 : (Jvm.Cond.fieldLink "BridgeAuction$Bridge" (9 : Nat) "BridgeAuction$Bridge" "priority" "I") ∈ lw_all := lw_g (lw_at lw_m1 183 rfl) rfl
theorem q261 : (Jvm.Cond.fieldLink "BridgeAuction$Bridge" (35 : Nat) "BridgeAuction$Bridge" "vector" "LBridgeAuction$Vector;") ∈ lw_all := lw_g (lw_at lw_m1 185 rfl) rfl
theorem q264 : (Jvm.Cond.fieldLink "BridgeAuction$Bridge" (15 : Nat) "BridgeAuction$Bridge" "entries" "[I") ∈ lw_all := lw_g (lw_at lw_m1 188 rfl) rfl
theorem q265 : (Jvm.Cond.fieldLink "BridgeAuction$Bridge" (19 : Nat) "BridgeAuction$Bridge" "made" "[I") ∈ lw_all := lw_g (lw_at lw_m1 189 rfl) rfl
theorem q266 : (Jvm.Cond.laysFinal "BridgeAuction$Bridge" "BridgeAuction$Bridge" "number" "I") ∈ lw_all := lw_g (lw_at lw_m1 190 rfl) rfl
theorem q267 : (Jvm.Cond.soleField "BridgeAuction$Bridge" "number") ∈ lw_all := lw_g (lw_at lw_m1 191 rfl) rfl
theorem q268 : (Jvm.Cond.lays "BridgeAuction$Bridge" "BridgeAuction$Bridge" "priority" "I") ∈ lw_all := lw_g (lw_at lw_m1 192 rfl) rfl
theorem q269 : (Jvm.Cond.soleField "BridgeAuction$Bridge" "priority") ∈ lw_all := lw_g (lw_at lw_m1 193 rfl) rfl
theorem q270 : (Jvm.Cond.lays "BridgeAuction$Bridge" "BridgeAuction$Bridge" "vector" "LBridgeAuction$Vector;") ∈ lw_all := lw_g (lw_at lw_m1 194 rfl) rfl
theorem q271 : (Jvm.Cond.soleField "BridgeAuction$Bridge" "vector") ∈ lw_all := lw_g (lw_at lw_m1 195 rfl) rfl
theorem q272 : (Jvm.Cond.lays "BridgeAuction$Bridge" "BridgeAuction$Bridge" "next" "LBridgeAuction$Vector;") ∈ lw_all := lw_g (lw_at lw_m1 196 rfl) rfl
theorem q273 : (Jvm.Cond.soleField "BridgeAuction$Bridge" "next") ∈ lw_all := lw_g (lw_at lw_m1 197 rfl) rfl
theorem q274 : (Jvm.Cond.laysFinal "BridgeAuction$Bridge" "BridgeAuction$Bridge" "entries" "[I") ∈ lw_all := lw_g (lw_at lw_m1 198 rfl) rfl
theorem q275 : (Jvm.Cond.soleField "BridgeAuction$Bridge" "entries") ∈ lw_all := lw_g (lw_at lw_m1 199 rfl) rfl
theorem q276 : (Jvm.Cond.laysFinal "BridgeAuction$Bridge" "BridgeAuction$Bridge" "made" "[I") ∈ lw_all := lw_g (lw_at lw_m1 200 rfl) rfl
theorem q277 : (Jvm.Cond.soleField "BridgeAuction$Bridge" "made") ∈ lw_all := lw_g (lw_at lw_m1 201 rfl) rfl
theorem q278 : (Jvm.Cond.superclass "BridgeAuction$Bridge" "java/lang/Object") ∈ lw_all := lw_g (lw_at lw_m1 202 rfl) rfl
theorem q312 : (Jvm.Cond.selects "BridgeAuction$Bridge" ({ cls := "java/lang/Object", name := "getClass", desc := "()Ljava/lang/Class;" } : Jvm.MethodName) ({ cls := "java/lang/Object", name := "getClass", desc := "()Ljava/lang/Class;" } : Jvm.MethodName)) ∈ lw_all := lw_g (lw_at lw_m1 236 rfl) rfl
theorem q1087 : (Jvm.Cond.unhidden "BridgeAuction$Bridge" "comesBefore" "(LBridgeAuction$Ranked;)Z") ∈ lw_tbl := lw_at lw_m5 51 rfl
theorem q1098 : (Jvm.Cond.castable "BridgeAuction$Bridge" "BridgeAuction$Ranked") ∈ lw_tbl := lw_at lw_m5 62 rfl
theorem q1099 : (Jvm.Cond.selects "BridgeAuction$Bridge" ({ cls := "BridgeAuction$Ranked", name := "root", desc := "()I" } : Jvm.MethodName) ({ cls := "BridgeAuction$Bridge", name := "root", desc := "()I" } : Jvm.MethodName)) ∈ lw_all := lw_g (lw_at lw_m5 63 rfl) rfl
theorem q1100 : (Jvm.Cond.unhidden "BridgeAuction$Bridge" "root" "()I") ∈ lw_tbl := lw_at lw_m5 64 rfl
theorem q1101 : (Jvm.Cond.instanceMethod ({ cls := "BridgeAuction$Bridge", name := "root", desc := "()I" } : Jvm.MethodName)) ∈ lw_all := lw_g (lw_at lw_m5 65 rfl) rfl
theorem q1102 : (Jvm.Cond.publicMethod ({ cls := "BridgeAuction$Bridge", name := "root", desc := "()I" } : Jvm.MethodName)) ∈ lw_tbl := lw_at lw_m5 66 rfl
theorem q1103 : (Jvm.Cond.code ({ cls := "BridgeAuction$Bridge", name := "root", desc := "()I" } : Jvm.MethodName) prog_2_method_4_code (1 : Nat) (Option.some Jvm.ClassFile.FieldType.int)) ∈ lw_all := lw_g (lw_at lw_m5 67 rfl) rfl
theorem q1114 : (Jvm.Cond.selects "BridgeAuction$Bridge" ({ cls := "BridgeAuction$Ranked", name := "cost", desc := "()I" } : Jvm.MethodName) ({ cls := "BridgeAuction$Bridge", name := "cost", desc := "()I" } : Jvm.MethodName)) ∈ lw_all := lw_g (lw_at lw_m5 78 rfl) rfl
theorem q1115 : (Jvm.Cond.unhidden "BridgeAuction$Bridge" "cost" "()I") ∈ lw_tbl := lw_at lw_m5 79 rfl
theorem q1116 : (Jvm.Cond.instanceMethod ({ cls := "BridgeAuction$Bridge", name := "cost", desc := "()I" } : Jvm.MethodName)) ∈ lw_all := lw_g (lw_at lw_m5 80 rfl) rfl
theorem q1117 : (Jvm.Cond.publicMethod ({ cls := "BridgeAuction$Bridge", name := "cost", desc := "()I" } : Jvm.MethodName)) ∈ lw_tbl := lw_at lw_m5 81 rfl
theorem q1118 : (Jvm.Cond.code ({ cls := "BridgeAuction$Bridge", name := "cost", desc := "()I" } : Jvm.MethodName) prog_2_method_5_code (1 : Nat) (Option.some Jvm.ClassFile.FieldType.int)) ∈ lw_all := lw_g (lw_at lw_m5 82 rfl) rfl
theorem q1128 : (Jvm.Cond.selects "BridgeAuction$Bridge" ({ cls := "BridgeAuction$Ranked", name := "teller", desc := "()I" } : Jvm.MethodName) ({ cls := "BridgeAuction$Bridge", name := "teller", desc := "()I" } : Jvm.MethodName)) ∈ lw_all := lw_g (lw_at lw_m5 92 rfl) rfl
theorem q1129 : (Jvm.Cond.unhidden "BridgeAuction$Bridge" "teller" "()I") ∈ lw_tbl := lw_at lw_m5 93 rfl
theorem q1130 : (Jvm.Cond.instanceMethod ({ cls := "BridgeAuction$Bridge", name := "teller", desc := "()I" } : Jvm.MethodName)) ∈ lw_all := lw_g (lw_at lw_m5 94 rfl) rfl
theorem q1131 : (Jvm.Cond.publicMethod ({ cls := "BridgeAuction$Bridge", name := "teller", desc := "()I" } : Jvm.MethodName)) ∈ lw_tbl := lw_at lw_m5 95 rfl
theorem q1132 : (Jvm.Cond.code ({ cls := "BridgeAuction$Bridge", name := "teller", desc := "()I" } : Jvm.MethodName) prog_2_method_6_code (1 : Nat) (Option.some Jvm.ClassFile.FieldType.int)) ∈ lw_all := lw_g (lw_at lw_m5 96 rfl) rfl
theorem q1163 : (Jvm.Cond.instanceMethod ({ cls := "BridgeAuction$Bridge", name := "copy", desc := "()LBridgeAuction$Bridge;" } : Jvm.MethodName)) ∈ lw_all := lw_g (lw_at lw_m5 127 rfl) rfl
theorem q1164 : (Jvm.Cond.selects "BridgeAuction$Bridge" ({ cls := "BridgeAuction$Bridge", name := "copy", desc := "()LBridgeAuction$Bridge;" } : Jvm.MethodName) ({ cls := "BridgeAuction$Bridge", name := "copy", desc := "()LBridgeAuction$Bridge;" } : Jvm.MethodName)) ∈ lw_all := lw_g (lw_at lw_m5 128 rfl) rfl
theorem q1165 : (Jvm.Cond.code ({ cls := "BridgeAuction$Bridge", name := "copy", desc := "()LBridgeAuction$Bridge;" } : Jvm.MethodName) prog_2_method_2_code (2 : Nat) (Option.some (Jvm.ClassFile.FieldType.object "BridgeAuction$Bridge"))) ∈ lw_all := lw_g (lw_at lw_m5 129 rfl) rfl
theorem q1166 : (Jvm.Cond.classLink "BridgeAuction$Bridge" (10 : Nat) "BridgeAuction$Bridge") ∈ lw_all := lw_g (lw_at lw_m5 130 rfl) rfl
theorem q1167 : (Jvm.Cond.methodLink "BridgeAuction$Bridge" (42 : Nat) ({ cls := "BridgeAuction$Bridge", name := "<init>", desc := "(I)V" } : Jvm.MethodName)) ∈ lw_all := lw_g (lw_at lw_m5 131 rfl) rfl
theorem q1168 : (Jvm.Cond.methodLink "BridgeAuction$Bridge" (45 : Nat) ({ cls := "java/lang/System", name := "arraycopy", desc := "(Ljava/lang/Object;ILjava/lang/Object;II)V" } : Jvm.MethodName)) ∈ lw_all := lw_g (lw_at lw_m5 132 rfl) rfl
theorem q1221 : (Jvm.Cond.instanceMethod ({ cls := "BridgeAuction$Bridge", name := "value", desc := "(I)I" } : Jvm.MethodName)) ∈ lw_all := lw_g (lw_at lw_m5 185 rfl) rfl
theorem q1222 : (Jvm.Cond.selects "BridgeAuction$Bridge" ({ cls := "BridgeAuction$Bridge", name := "value", desc := "(I)I" } : Jvm.MethodName) ({ cls := "BridgeAuction$Bridge", name := "value", desc := "(I)I" } : Jvm.MethodName)) ∈ lw_all := lw_g (lw_at lw_m5 186 rfl) rfl
theorem q1223 : (Jvm.Cond.code ({ cls := "BridgeAuction$Bridge", name := "value", desc := "(I)I" } : Jvm.MethodName) prog_2_method_11_code (2 : Nat) (Option.some Jvm.ClassFile.FieldType.int)) ∈ lw_all := lw_g (lw_at lw_m5 187 rfl) rfl
theorem q1224 : (Jvm.Cond.methodLink "BridgeAuction$Bridge" (69 : Nat) ({ cls := "BridgeAuction$Bridge", name := "entryCount", desc := "()I" } : Jvm.MethodName)) ∈ lw_all := lw_g (lw_at lw_m5 188 rfl) rfl
theorem q1225 : (Jvm.Cond.instanceMethod ({ cls := "BridgeAuction$Bridge", name := "entryCount", desc := "()I" } : Jvm.MethodName)) ∈ lw_all := lw_g (lw_at lw_m5 189 rfl) rfl
theorem q1226 : (Jvm.Cond.selects "BridgeAuction$Bridge" ({ cls := "BridgeAuction$Bridge", name := "entryCount", desc := "()I" } : Jvm.MethodName) ({ cls := "BridgeAuction$Bridge", name := "entryCount", desc := "()I" } : Jvm.MethodName)) ∈ lw_all := lw_g (lw_at lw_m5 190 rfl) rfl
theorem q1227 : (Jvm.Cond.code ({ cls := "BridgeAuction$Bridge", name := "entryCount", desc := "()I" } : Jvm.MethodName) prog_2_method_8_code (6 : Nat) (Option.some Jvm.ClassFile.FieldType.int)) ∈ lw_all := lw_g (lw_at lw_m5 191 rfl) rfl
theorem q1229 : (Jvm.Cond.instanceMethod ({ cls := "BridgeAuction$Bridge", name := "entry", desc := "(II)I" } : Jvm.MethodName)) ∈ lw_all := lw_g (lw_at lw_m5 193 rfl) rfl
theorem q1230 : (Jvm.Cond.selects "BridgeAuction$Bridge" ({ cls := "BridgeAuction$Bridge", name := "entry", desc := "(II)I" } : Jvm.MethodName) ({ cls := "BridgeAuction$Bridge", name := "entry", desc := "(II)I" } : Jvm.MethodName)) ∈ lw_all := lw_g (lw_at lw_m5 194 rfl) rfl
theorem q1231 : (Jvm.Cond.code ({ cls := "BridgeAuction$Bridge", name := "entry", desc := "(II)I" } : Jvm.MethodName) prog_2_method_9_code (3 : Nat) (Option.some Jvm.ClassFile.FieldType.int)) ∈ lw_all := lw_g (lw_at lw_m5 195 rfl) rfl
theorem q1372 : (Jvm.Cond.instanceMethod ({ cls := "BridgeAuction$Bridge", name := "learn", desc := "(III)V" } : Jvm.MethodName)) ∈ lw_all := lw_g (lw_at lw_m6 96 rfl) rfl
theorem q1373 : (Jvm.Cond.selects "BridgeAuction$Bridge" ({ cls := "BridgeAuction$Bridge", name := "learn", desc := "(III)V" } : Jvm.MethodName) ({ cls := "BridgeAuction$Bridge", name := "learn", desc := "(III)V" } : Jvm.MethodName)) ∈ lw_all := lw_g (lw_at lw_m6 97 rfl) rfl
theorem q1374 : (Jvm.Cond.code ({ cls := "BridgeAuction$Bridge", name := "learn", desc := "(III)V" } : Jvm.MethodName) prog_2_method_10_code (4 : Nat) (Option.none : Option Jvm.ClassFile.FieldType)) ∈ lw_all := lw_g (lw_at lw_m6 98 rfl) rfl
theorem q1873 : (Jvm.Cond.castable "BridgeAuction$Bridge" "java/lang/Object") ∈ lw_tbl := lw_at lw_m8 117 rfl
theorem in_X3 : ∀ w ∈ wsX30, w ∈ lw_all := lw_in wsX30 [266, 268, 270, 272, 274, 276] (by decide +kernel) (by decide +kernel)
theorem q83 : (Jvm.Cond.initialized "BridgeAuction$Vector") ∈ lw_all := lw_g (lw_at lw_m1 7 rfl) rfl
theorem q218 : (Jvm.Cond.static ({ cls := "BridgeAuction$Vector", name := "own", desc := "(I)LBridgeAuction$Vector;" } : Jvm.MethodName)) ∈ lw_all := lw_g (lw_at lw_m1 142 rfl) rfl
theorem q219 : (Jvm.Cond.code ({ cls := "BridgeAuction$Vector", name := "own", desc := "(I)LBridgeAuction$Vector;" } : Jvm.MethodName) prog_9_method_2_code (1 : Nat) (Option.some (Jvm.ClassFile.FieldType.object "BridgeAuction$Vector"))) ∈ lw_all := lw_g (lw_at lw_m1 143 rfl) rfl
theorem q220 : (Jvm.Cond.classLink "BridgeAuction$Vector" (10 : Nat) "BridgeAuction$Vector") ∈ lw_all := lw_g (lw_at lw_m1 144 rfl) rfl
theorem q221 : (Jvm.Cond.instantiable "BridgeAuction$Vector" (5 : Nat)) ∈ lw_all := lw_g (lw_at lw_m1 145 rfl) rfl
theorem q222 : (Jvm.Cond.methodLink "BridgeAuction$Vector" (27 : Nat) ({ cls := "BridgeAuction$Vector", name := "<init>", desc := "(IIIII)V" } : Jvm.MethodName)) ∈ lw_all := lw_g (lw_at lw_m1 146 rfl) rfl
theorem q223 : (Jvm.Cond.instanceMethod ({ cls := "BridgeAuction$Vector", name := "<init>", desc := "(IIIII)V" } : Jvm.MethodName)) ∈ lw_all := lw_g (lw_at lw_m1 147 rfl) rfl
theorem q224 : (Jvm.Cond.code ({ cls := "BridgeAuction$Vector", name := "<init>", desc := "(IIIII)V" } : Jvm.MethodName) prog_9_method_1_code (6 : Nat) (Option.none : Option Jvm.ClassFile.FieldType)) ∈ lw_all := lw_g (lw_at lw_m1 148 rfl) rfl
theorem q225 : (Jvm.Cond.methodLink "BridgeAuction$Vector" (3 : Nat) ({ cls := "java/lang/Object", name := "<init>", desc := "()V" } : Jvm.MethodName)) ∈ lw_all := lw_g (lw_at lw_m1 149 rfl) rfl
theorem q226 : (Jvm.Cond.fieldLink "BridgeAuction$Vector" (9 : Nat) "BridgeAuction$Vector" "root" "I") ∈ lw_all := lw_g (lw_at lw_m1 150 rfl) rfl
theorem q229 : (Jvm.Cond.fieldLink "BridgeAuction$Vector" (15 : Nat) "BridgeAuction$Vector" "cost" "I") ∈ lw_all := lw_g (lw_at lw_m1 153 rfl) rfl
theorem q232 : (Jvm.Cond.fieldLink "BridgeAuction$Vector" (18 : Nat) "BridgeAuction$Vector" "teller" "I") ∈ lw_all := lw_g (lw_at lw_m1 156 rfl) rfl
theorem q233 : (Jvm.Cond.fieldLink "BridgeAuction$Vector" (21 : Nat) "BridgeAuction$Vector" "age" "I") ∈ lw_all := lw_g (lw_at lw_m1 157 rfl) rfl
theorem q236 : (Jvm.Cond.fieldLink "BridgeAuction$Vector" (24 : Nat) "BridgeAuction$Vector" "link" "I") ∈ lw_all := lw_g (lw_at lw_m1 160 rfl) rfl
theorem q239 : (Jvm.Cond.laysFinal "BridgeAuction$Vector" "BridgeAuction$Vector" "root" "I") ∈ lw_all := lw_g (lw_at lw_m1 163 rfl) rfl
theorem q240 : (Jvm.Cond.soleField "BridgeAuction$Vector" "root") ∈ lw_all := lw_g (lw_at lw_m1 164 rfl) rfl
theorem q241 : (Jvm.Cond.laysFinal "BridgeAuction$Vector" "BridgeAuction$Vector" "cost" "I") ∈ lw_all := lw_g (lw_at lw_m1 165 rfl) rfl
theorem q242 : (Jvm.Cond.soleField "BridgeAuction$Vector" "cost") ∈ lw_all := lw_g (lw_at lw_m1 166 rfl) rfl
theorem q243 : (Jvm.Cond.laysFinal "BridgeAuction$Vector" "BridgeAuction$Vector" "teller" "I") ∈ lw_all := lw_g (lw_at lw_m1 167 rfl) rfl
theorem q244 : (Jvm.Cond.soleField "BridgeAuction$Vector" "teller") ∈ lw_all := lw_g (lw_at lw_m1 168 rfl) rfl
theorem q245 : (Jvm.Cond.laysFinal "BridgeAuction$Vector" "BridgeAuction$Vector" "age" "I") ∈ lw_all := lw_g (lw_at lw_m1 169 rfl) rfl
theorem q246 : (Jvm.Cond.soleField "BridgeAuction$Vector" "age") ∈ lw_all := lw_g (lw_at lw_m1 170 rfl) rfl
theorem q247 : (Jvm.Cond.laysFinal "BridgeAuction$Vector" "BridgeAuction$Vector" "link" "I") ∈ lw_all := lw_g (lw_at lw_m1 171 rfl) rfl
theorem q248 : (Jvm.Cond.soleField "BridgeAuction$Vector" "link") ∈ lw_all := lw_g (lw_at lw_m1 172 rfl) rfl
theorem q249 : (Jvm.Cond.superclass "BridgeAuction$Vector" "java/lang/Object") ∈ lw_all := lw_g (lw_at lw_m1 173 rfl) rfl
theorem q317 : (Jvm.Cond.selects "BridgeAuction$Vector" ({ cls := "java/lang/Object", name := "getClass", desc := "()Ljava/lang/Class;" } : Jvm.MethodName) ({ cls := "java/lang/Object", name := "getClass", desc := "()Ljava/lang/Class;" } : Jvm.MethodName)) ∈ lw_all := lw_g (lw_at lw_m2 1 rfl) rfl
theorem q1079 : (Jvm.Cond.instanceMethod ({ cls := "BridgeAuction$Vector", name := "asTold", desc := "(IIIII)LBridgeAuction$Vector;" } : Jvm.MethodName)) ∈ lw_all := lw_g (lw_at lw_m5 43 rfl) rfl
theorem q1080 : (Jvm.Cond.selects "BridgeAuction$Vector" ({ cls := "BridgeAuction$Vector", name := "asTold", desc := "(IIIII)LBridgeAuction$Vector;" } : Jvm.MethodName) ({ cls := "BridgeAuction$Vector", name := "asTold", desc := "(IIIII)LBridgeAuction$Vector;" } : Jvm.MethodName)) ∈ lw_all := lw_g (lw_at lw_m5 44 rfl) rfl
theorem q1081 : (Jvm.Cond.code ({ cls := "BridgeAuction$Vector", name := "asTold", desc := "(IIIII)LBridgeAuction$Vector;" } : Jvm.MethodName) prog_9_method_3_code (7 : Nat) (Option.some (Jvm.ClassFile.FieldType.object "BridgeAuction$Vector"))) ∈ lw_all := lw_g (lw_at lw_m5 45 rfl) rfl
theorem q1104 : (Jvm.Cond.castable "BridgeAuction$Vector" "BridgeAuction$Ranked") ∈ lw_tbl := lw_at lw_m5 68 rfl
theorem q1105 : (Jvm.Cond.selects "BridgeAuction$Vector" ({ cls := "BridgeAuction$Ranked", name := "root", desc := "()I" } : Jvm.MethodName) ({ cls := "BridgeAuction$Vector", name := "root", desc := "()I" } : Jvm.MethodName)) ∈ lw_all := lw_g (lw_at lw_m5 69 rfl) rfl
theorem q1106 : (Jvm.Cond.unhidden "BridgeAuction$Vector" "root" "()I") ∈ lw_tbl := lw_at lw_m5 70 rfl
theorem q1107 : (Jvm.Cond.instanceMethod ({ cls := "BridgeAuction$Vector", name := "root", desc := "()I" } : Jvm.MethodName)) ∈ lw_all := lw_g (lw_at lw_m5 71 rfl) rfl
theorem q1108 : (Jvm.Cond.publicMethod ({ cls := "BridgeAuction$Vector", name := "root", desc := "()I" } : Jvm.MethodName)) ∈ lw_tbl := lw_at lw_m5 72 rfl
theorem q1109 : (Jvm.Cond.code ({ cls := "BridgeAuction$Vector", name := "root", desc := "()I" } : Jvm.MethodName) prog_9_method_4_code (1 : Nat) (Option.some Jvm.ClassFile.FieldType.int)) ∈ lw_all := lw_g (lw_at lw_m5 73 rfl) rfl
theorem q1119 : (Jvm.Cond.selects "BridgeAuction$Vector" ({ cls := "BridgeAuction$Ranked", name := "cost", desc := "()I" } : Jvm.MethodName) ({ cls := "BridgeAuction$Vector", name := "cost", desc := "()I" } : Jvm.MethodName)) ∈ lw_all := lw_g (lw_at lw_m5 83 rfl) rfl
theorem q1120 : (Jvm.Cond.unhidden "BridgeAuction$Vector" "cost" "()I") ∈ lw_tbl := lw_at lw_m5 84 rfl
theorem q1121 : (Jvm.Cond.instanceMethod ({ cls := "BridgeAuction$Vector", name := "cost", desc := "()I" } : Jvm.MethodName)) ∈ lw_all := lw_g (lw_at lw_m5 85 rfl) rfl
theorem q1122 : (Jvm.Cond.publicMethod ({ cls := "BridgeAuction$Vector", name := "cost", desc := "()I" } : Jvm.MethodName)) ∈ lw_tbl := lw_at lw_m5 86 rfl
theorem q1123 : (Jvm.Cond.code ({ cls := "BridgeAuction$Vector", name := "cost", desc := "()I" } : Jvm.MethodName) prog_9_method_5_code (1 : Nat) (Option.some Jvm.ClassFile.FieldType.int)) ∈ lw_all := lw_g (lw_at lw_m5 87 rfl) rfl
theorem q1133 : (Jvm.Cond.selects "BridgeAuction$Vector" ({ cls := "BridgeAuction$Ranked", name := "teller", desc := "()I" } : Jvm.MethodName) ({ cls := "BridgeAuction$Vector", name := "teller", desc := "()I" } : Jvm.MethodName)) ∈ lw_all := lw_g (lw_at lw_m5 97 rfl) rfl
theorem q1134 : (Jvm.Cond.unhidden "BridgeAuction$Vector" "teller" "()I") ∈ lw_tbl := lw_at lw_m5 98 rfl
theorem q1135 : (Jvm.Cond.instanceMethod ({ cls := "BridgeAuction$Vector", name := "teller", desc := "()I" } : Jvm.MethodName)) ∈ lw_all := lw_g (lw_at lw_m5 99 rfl) rfl
theorem q1136 : (Jvm.Cond.publicMethod ({ cls := "BridgeAuction$Vector", name := "teller", desc := "()I" } : Jvm.MethodName)) ∈ lw_tbl := lw_at lw_m5 100 rfl
theorem q1137 : (Jvm.Cond.code ({ cls := "BridgeAuction$Vector", name := "teller", desc := "()I" } : Jvm.MethodName) prog_9_method_6_code (1 : Nat) (Option.some Jvm.ClassFile.FieldType.int)) ∈ lw_all := lw_g (lw_at lw_m5 101 rfl) rfl
theorem q1874 : (Jvm.Cond.castable "BridgeAuction$Vector" "java/lang/Object") ∈ lw_tbl := lw_at lw_m8 118 rfl
theorem in_X4 : ∀ w ∈ wsX40, w ∈ lw_all := lw_in wsX40 [239, 241, 243, 245, 247] (by decide +kernel) (by decide +kernel)
theorem q84 : (Jvm.Cond.initialized "java/util/Arrays") ∈ lw_all := lw_g (lw_at lw_m1 8 rfl) rfl
theorem q255 : (Jvm.Cond.static ({ cls := "java/util/Arrays", name := "fill", desc := "([II)V" } : Jvm.MethodName)) ∈ lw_all := lw_g (lw_at lw_m1 179 rfl) rfl
theorem q256 : (Jvm.Cond.code ({ cls := "java/util/Arrays", name := "fill", desc := "([II)V" } : Jvm.MethodName) prog_40_method_103_code (4 : Nat) (Option.none : Option Jvm.ClassFile.FieldType)) ∈ lw_all := lw_g (lw_at lw_m1 180 rfl) rfl
theorem q306 : (Jvm.Cond.static ({ cls := "java/util/Arrays", name := "copyOf", desc := "([Ljava/lang/Object;I)[Ljava/lang/Object;" } : Jvm.MethodName)) ∈ lw_all := lw_g (lw_at lw_m1 230 rfl) rfl
theorem q307 : (Jvm.Cond.code ({ cls := "java/util/Arrays", name := "copyOf", desc := "([Ljava/lang/Object;I)[Ljava/lang/Object;" } : Jvm.MethodName) prog_40_method_119_code (2 : Nat) (Option.some (Jvm.ClassFile.FieldType.array (Jvm.ClassFile.FieldType.object "java/lang/Object")))) ∈ lw_all := lw_g (lw_at lw_m1 231 rfl) rfl
theorem q308 : (Jvm.Cond.methodLink "java/util/Arrays" (86 : Nat) ({ cls := "java/lang/Object", name := "getClass", desc := "()Ljava/lang/Class;" } : Jvm.MethodName)) ∈ lw_all := lw_g (lw_at lw_m1 232 rfl) rfl
theorem q328 : (Jvm.Cond.methodLink "java/util/Arrays" (300 : Nat) ({ cls := "java/util/Arrays", name := "copyOf", desc := "([Ljava/lang/Object;ILjava/lang/Class;)[Ljava/lang/Object;" } : Jvm.MethodName)) ∈ lw_all := lw_g (lw_at lw_m2 12 rfl) rfl
theorem q329 : (Jvm.Cond.static ({ cls := "java/util/Arrays", name := "copyOf", desc := "([Ljava/lang/Object;ILjava/lang/Class;)[Ljava/lang/Object;" } : Jvm.MethodName)) ∈ lw_all := lw_g (lw_at lw_m2 13 rfl) rfl
theorem q330 : (Jvm.Cond.code ({ cls := "java/util/Arrays", name := "copyOf", desc := "([Ljava/lang/Object;ILjava/lang/Class;)[Ljava/lang/Object;" } : Jvm.MethodName) prog_40_method_120_code (4 : Nat) (Option.some (Jvm.ClassFile.FieldType.array (Jvm.ClassFile.FieldType.object "java/lang/Object")))) ∈ lw_all := lw_g (lw_at lw_m2 14 rfl) rfl
theorem q331 : (Jvm.Cond.classLink "java/util/Arrays" (110 : Nat) "[Ljava/lang/Object;") ∈ lw_all := lw_g (lw_at lw_m2 15 rfl) rfl
theorem q333 : (Jvm.Cond.classLink "java/util/Arrays" (2 : Nat) "java/lang/Object") ∈ lw_all := lw_g (lw_at lw_m2 17 rfl) rfl
theorem q334 : (Jvm.Cond.methodLink "java/util/Arrays" (304 : Nat) ({ cls := "java/lang/Math", name := "min", desc := "(II)I" } : Jvm.MethodName)) ∈ lw_all := lw_g (lw_at lw_m2 18 rfl) rfl
theorem q337 : (Jvm.Cond.methodLink "java/util/Arrays" (150 : Nat) ({ cls := "java/lang/System", name := "arraycopy", desc := "(Ljava/lang/Object;ILjava/lang/Object;II)V" } : Jvm.MethodName)) ∈ lw_all := lw_g (lw_at lw_m2 21 rfl) rfl
theorem q514 : (Jvm.Cond.static ({ cls := "java/util/Arrays", name := "copyOf", desc := "([BI)[B" } : Jvm.MethodName)) ∈ lw_all := lw_g (lw_at lw_m2 198 rfl) rfl
theorem q515 : (Jvm.Cond.code ({ cls := "java/util/Arrays", name := "copyOf", desc := "([BI)[B" } : Jvm.MethodName) prog_40_method_121_code (3 : Nat) (Option.some (Jvm.ClassFile.FieldType.array Jvm.ClassFile.FieldType.byte))) ∈ lw_all := lw_g (lw_at lw_m2 199 rfl) rfl
theorem q516 : (Jvm.Cond.methodLink "java/util/Arrays" (310 : Nat) ({ cls := "[B", name := "clone", desc := "()Ljava/lang/Object;" } : Jvm.MethodName)) ∈ lw_all := lw_g (lw_at lw_m2 200 rfl) rfl
theorem q522 : (Jvm.Cond.classLink "java/util/Arrays" (311 : Nat) "[B") ∈ lw_all := lw_g (lw_at lw_m2 206 rfl) rfl
theorem q602 : (Jvm.Cond.static ({ cls := "java/util/Arrays", name := "copyOfRange", desc := "([BII)[B" } : Jvm.MethodName)) ∈ lw_all := lw_g (lw_at lw_m3 46 rfl) rfl
theorem q603 : (Jvm.Cond.code ({ cls := "java/util/Arrays", name := "copyOfRange", desc := "([BII)[B" } : Jvm.MethodName) prog_40_method_132_code (3 : Nat) (Option.some (Jvm.ClassFile.FieldType.array Jvm.ClassFile.FieldType.byte))) ∈ lw_all := lw_g (lw_at lw_m3 47 rfl) rfl
theorem q604 : (Jvm.Cond.methodLink "java/util/Arrays" (339 : Nat) ({ cls := "java/util/Arrays", name := "copyOfRangeByte", desc := "([BII)[B" } : Jvm.MethodName)) ∈ lw_all := lw_g (lw_at lw_m3 48 rfl) rfl
theorem q605 : (Jvm.Cond.static ({ cls := "java/util/Arrays", name := "copyOfRangeByte", desc := "([BII)[B" } : Jvm.MethodName)) ∈ lw_all := lw_g (lw_at lw_m3 49 rfl) rfl
theorem q606 : (Jvm.Cond.code ({ cls := "java/util/Arrays", name := "copyOfRangeByte", desc := "([BII)[B" } : Jvm.MethodName) prog_40_method_133_code (5 : Nat) (Option.some (Jvm.ClassFile.FieldType.array Jvm.ClassFile.FieldType.byte))) ∈ lw_all := lw_g (lw_at lw_m3 50 rfl) rfl
theorem q607 : (Jvm.Cond.methodLink "java/util/Arrays" (343 : Nat) ({ cls := "java/util/Arrays", name := "checkLength", desc := "(II)V" } : Jvm.MethodName)) ∈ lw_all := lw_g (lw_at lw_m3 51 rfl) rfl
theorem q608 : (Jvm.Cond.static ({ cls := "java/util/Arrays", name := "checkLength", desc := "(II)V" } : Jvm.MethodName)) ∈ lw_all := lw_g (lw_at lw_m3 52 rfl) rfl
theorem q609 : (Jvm.Cond.code ({ cls := "java/util/Arrays", name := "checkLength", desc := "(II)V" } : Jvm.MethodName) prog_40_method_131_code (2 : Nat) (Option.none : Option Jvm.ClassFile.FieldType)) ∈ lw_all := lw_g (lw_at lw_m3 53 rfl) rfl
theorem q610 : (Jvm.Cond.classLink "java/util/Arrays" (43 : Nat) "java/lang/IllegalArgumentException") ∈ lw_all := lw_g (lw_at lw_m3 54 rfl) rfl
theorem q652 : (Jvm.Cond.classLink "java/util/Arrays" (45 : Nat) "java/lang/StringBuilder") ∈ lw_all := lw_g (lw_at lw_m3 96 rfl) rfl
theorem q653 : (Jvm.Cond.methodLink "java/util/Arrays" (47 : Nat) ({ cls := "java/lang/StringBuilder", name := "<init>", desc := "()V" } : Jvm.MethodName)) ∈ lw_all := lw_g (lw_at lw_m3 97 rfl) rfl
theorem q654 : (Jvm.Cond.methodLink "java/util/Arrays" (54 : Nat) ({ cls := "java/lang/StringBuilder", name := "append", desc := "(I)Ljava/lang/StringBuilder;" } : Jvm.MethodName)) ∈ lw_all := lw_g (lw_at lw_m3 98 rfl) rfl
theorem q688 : (Jvm.Cond.stringRef "java/util/Arrays" (337 : Nat) " > ") ∈ lw_tbl := lw_at lw_m3 132 rfl
theorem q689 : (Jvm.Cond.methodLink "java/util/Arrays" (50 : Nat) ({ cls := "java/lang/StringBuilder", name := "append", desc := "(Ljava/lang/String;)Ljava/lang/StringBuilder;" } : Jvm.MethodName)) ∈ lw_all := lw_g (lw_at lw_m3 133 rfl) rfl
theorem q727 : (Jvm.Cond.methodLink "java/util/Arrays" (61 : Nat) ({ cls := "java/lang/StringBuilder", name := "toString", desc := "()Ljava/lang/String;" } : Jvm.MethodName)) ∈ lw_all := lw_g (lw_at lw_m3 171 rfl) rfl
theorem q728 : (Jvm.Cond.methodLink "java/util/Arrays" (65 : Nat) ({ cls := "java/lang/IllegalArgumentException", name := "<init>", desc := "(Ljava/lang/String;)V" } : Jvm.MethodName)) ∈ lw_all := lw_g (lw_at lw_m3 172 rfl) rfl
theorem q85 : (Jvm.Cond.initialized "jdk/internal/util/ArraysSupport") ∈ lw_all := lw_g (lw_at lw_m1 9 rfl) rfl
theorem q296 : (Jvm.Cond.static ({ cls := "jdk/internal/util/ArraysSupport", name := "newLength", desc := "(III)I" } : Jvm.MethodName)) ∈ lw_all := lw_g (lw_at lw_m1 220 rfl) rfl
theorem q297 : (Jvm.Cond.code ({ cls := "jdk/internal/util/ArraysSupport", name := "newLength", desc := "(III)I" } : Jvm.MethodName) prog_47_method_27_code (4 : Nat) (Option.some Jvm.ClassFile.FieldType.int)) ∈ lw_all := lw_g (lw_at lw_m1 221 rfl) rfl
theorem q298 : (Jvm.Cond.methodLink "jdk/internal/util/ArraysSupport" (194 : Nat) ({ cls := "java/lang/Math", name := "max", desc := "(II)I" } : Jvm.MethodName)) ∈ lw_all := lw_g (lw_at lw_m1 222 rfl) rfl
theorem q301 : (Jvm.Cond.constant "jdk/internal/util/ArraysSupport" (200 : Nat) (2147483639 : Int32)) ∈ lw_all := lw_g (lw_at lw_m1 225 rfl) rfl
theorem q302 : (Jvm.Cond.methodLink "jdk/internal/util/ArraysSupport" (201 : Nat) ({ cls := "jdk/internal/util/ArraysSupport", name := "hugeLength", desc := "(II)I" } : Jvm.MethodName)) ∈ lw_all := lw_g (lw_at lw_m1 226 rfl) rfl
theorem q303 : (Jvm.Cond.static ({ cls := "jdk/internal/util/ArraysSupport", name := "hugeLength", desc := "(II)I" } : Jvm.MethodName)) ∈ lw_all := lw_g (lw_at lw_m1 227 rfl) rfl
theorem q304 : (Jvm.Cond.code ({ cls := "jdk/internal/util/ArraysSupport", name := "hugeLength", desc := "(II)I" } : Jvm.MethodName) prog_47_method_28_code (3 : Nat) (Option.some Jvm.ClassFile.FieldType.int)) ∈ lw_all := lw_g (lw_at lw_m1 228 rfl) rfl
theorem q794 : (Jvm.Cond.static ({ cls := "jdk/internal/util/ArraysSupport", name := "vectorizedHashCode", desc := "(Ljava/lang/Object;IIII)I" } : Jvm.MethodName)) ∈ lw_all := lw_g (lw_at lw_m3 238 rfl) rfl
theorem q795 : (Jvm.Cond.code ({ cls := "jdk/internal/util/ArraysSupport", name := "vectorizedHashCode", desc := "(Ljava/lang/Object;IIII)I" } : Jvm.MethodName) prog_47_method_4_code (5 : Nat) (Option.some Jvm.ClassFile.FieldType.int)) ∈ lw_all := lw_g (lw_at lw_m3 239 rfl) rfl
theorem q796 : (Jvm.Cond.classLink "jdk/internal/util/ArraysSupport" (60 : Nat) "[B") ∈ lw_all := lw_g (lw_at lw_m4 0 rfl) rfl
theorem q797 : (Jvm.Cond.methodLink "jdk/internal/util/ArraysSupport" (62 : Nat) ({ cls := "jdk/internal/util/ArraysSupport", name := "signedHashCode", desc := "(I[BII)I" } : Jvm.MethodName)) ∈ lw_all := lw_g (lw_at lw_m4 1 rfl) rfl
theorem q798 : (Jvm.Cond.static ({ cls := "jdk/internal/util/ArraysSupport", name := "signedHashCode", desc := "(I[BII)I" } : Jvm.MethodName)) ∈ lw_all := lw_g (lw_at lw_m4 2 rfl) rfl
theorem q799 : (Jvm.Cond.code ({ cls := "jdk/internal/util/ArraysSupport", name := "signedHashCode", desc := "(I[BII)I" } : Jvm.MethodName) prog_47_method_5_code (6 : Nat) (Option.some Jvm.ClassFile.FieldType.int)) ∈ lw_all := lw_g (lw_at lw_m4 3 rfl) rfl
theorem q800 : (Jvm.Cond.methodLink "jdk/internal/util/ArraysSupport" (66 : Nat) ({ cls := "jdk/internal/util/ArraysSupport", name := "utf16hashCode", desc := "(I[BII)I" } : Jvm.MethodName)) ∈ lw_all := lw_g (lw_at lw_m4 4 rfl) rfl
theorem q801 : (Jvm.Cond.static ({ cls := "jdk/internal/util/ArraysSupport", name := "utf16hashCode", desc := "(I[BII)I" } : Jvm.MethodName)) ∈ lw_all := lw_g (lw_at lw_m4 5 rfl) rfl
theorem q802 : (Jvm.Cond.code ({ cls := "jdk/internal/util/ArraysSupport", name := "utf16hashCode", desc := "(I[BII)I" } : Jvm.MethodName) prog_47_method_10_code (6 : Nat) (Option.some Jvm.ClassFile.FieldType.int)) ∈ lw_all := lw_g (lw_at lw_m4 6 rfl) rfl
theorem q803 : (Jvm.Cond.fieldLink "jdk/internal/util/ArraysSupport" (106 : Nat) "jdk/internal/util/ArraysSupport" "JLA" "Ljdk/internal/access/JavaLangAccess;") ∈ lw_all := lw_g (lw_at lw_m4 7 rfl) rfl
theorem q804 : (Jvm.Cond.laysStatic "jdk/internal/util/ArraysSupport" "JLA" "Ljdk/internal/access/JavaLangAccess;") ∈ lw_tbl := lw_at lw_m4 8 rfl
theorem q805 : (Jvm.Cond.interfaceEntry "jdk/internal/util/ArraysSupport" (110 : Nat)) ∈ lw_tbl := lw_at lw_m4 9 rfl
theorem q806 : (Jvm.Cond.methodLink "jdk/internal/util/ArraysSupport" (110 : Nat) ({ cls := "jdk/internal/access/JavaLangAccess", name := "getUTF16Char", desc := "([BI)C" } : Jvm.MethodName)) ∈ lw_all := lw_g (lw_at lw_m4 10 rfl) rfl
theorem q816 : (Jvm.Cond.classLink "jdk/internal/util/ArraysSupport" (69 : Nat) "[C") ∈ lw_all := lw_g (lw_at lw_m4 20 rfl) rfl
theorem q817 : (Jvm.Cond.methodLink "jdk/internal/util/ArraysSupport" (71 : Nat) ({ cls := "jdk/internal/util/ArraysSupport", name := "hashCode", desc := "(I[CII)I" } : Jvm.MethodName)) ∈ lw_all := lw_g (lw_at lw_m4 21 rfl) rfl
theorem q818 : (Jvm.Cond.static ({ cls := "jdk/internal/util/ArraysSupport", name := "hashCode", desc := "(I[CII)I" } : Jvm.MethodName)) ∈ lw_all := lw_g (lw_at lw_m4 22 rfl) rfl
theorem q819 : (Jvm.Cond.code ({ cls := "jdk/internal/util/ArraysSupport", name := "hashCode", desc := "(I[CII)I" } : Jvm.MethodName) prog_47_method_7_code (6 : Nat) (Option.some Jvm.ClassFile.FieldType.int)) ∈ lw_all := lw_g (lw_at lw_m4 23 rfl) rfl
theorem q820 : (Jvm.Cond.methodLink "jdk/internal/util/ArraysSupport" (75 : Nat) ({ cls := "jdk/internal/util/ArraysSupport", name := "hashCode", desc := "(I[BII)I" } : Jvm.MethodName)) ∈ lw_all := lw_g (lw_at lw_m4 24 rfl) rfl
theorem q821 : (Jvm.Cond.static ({ cls := "jdk/internal/util/ArraysSupport", name := "hashCode", desc := "(I[BII)I" } : Jvm.MethodName)) ∈ lw_all := lw_g (lw_at lw_m4 25 rfl) rfl
theorem q822 : (Jvm.Cond.code ({ cls := "jdk/internal/util/ArraysSupport", name := "hashCode", desc := "(I[BII)I" } : Jvm.MethodName) prog_47_method_6_code (6 : Nat) (Option.some Jvm.ClassFile.FieldType.int)) ∈ lw_all := lw_g (lw_at lw_m4 26 rfl) rfl
theorem q823 : (Jvm.Cond.classLink "jdk/internal/util/ArraysSupport" (77 : Nat) "[S") ∈ lw_all := lw_g (lw_at lw_m4 27 rfl) rfl
theorem q824 : (Jvm.Cond.methodLink "jdk/internal/util/ArraysSupport" (79 : Nat) ({ cls := "jdk/internal/util/ArraysSupport", name := "hashCode", desc := "(I[SII)I" } : Jvm.MethodName)) ∈ lw_all := lw_g (lw_at lw_m4 28 rfl) rfl
theorem q825 : (Jvm.Cond.static ({ cls := "jdk/internal/util/ArraysSupport", name := "hashCode", desc := "(I[SII)I" } : Jvm.MethodName)) ∈ lw_all := lw_g (lw_at lw_m4 29 rfl) rfl
theorem q826 : (Jvm.Cond.code ({ cls := "jdk/internal/util/ArraysSupport", name := "hashCode", desc := "(I[SII)I" } : Jvm.MethodName) prog_47_method_8_code (6 : Nat) (Option.some Jvm.ClassFile.FieldType.int)) ∈ lw_all := lw_g (lw_at lw_m4 30 rfl) rfl
theorem q827 : (Jvm.Cond.classLink "jdk/internal/util/ArraysSupport" (82 : Nat) "[I") ∈ lw_all := lw_g (lw_at lw_m4 31 rfl) rfl
theorem q828 : (Jvm.Cond.methodLink "jdk/internal/util/ArraysSupport" (84 : Nat) ({ cls := "jdk/internal/util/ArraysSupport", name := "hashCode", desc := "(I[III)I" } : Jvm.MethodName)) ∈ lw_all := lw_g (lw_at lw_m4 32 rfl) rfl
theorem q829 : (Jvm.Cond.static ({ cls := "jdk/internal/util/ArraysSupport", name := "hashCode", desc := "(I[III)I" } : Jvm.MethodName)) ∈ lw_all := lw_g (lw_at lw_m4 33 rfl) rfl
theorem q830 : (Jvm.Cond.code ({ cls := "jdk/internal/util/ArraysSupport", name := "hashCode", desc := "(I[III)I" } : Jvm.MethodName) prog_47_method_9_code (6 : Nat) (Option.some Jvm.ClassFile.FieldType.int)) ∈ lw_all := lw_g (lw_at lw_m4 34 rfl) rfl
theorem q831 : (Jvm.Cond.classLink "jdk/internal/util/ArraysSupport" (87 : Nat) "java/lang/IllegalArgumentException") ∈ lw_all := lw_g (lw_at lw_m4 35 rfl) rfl
theorem q832 : (Jvm.Cond.classLink "jdk/internal/util/ArraysSupport" (89 : Nat) "java/lang/StringBuilder") ∈ lw_all := lw_g (lw_at lw_m4 36 rfl) rfl
theorem q833 : (Jvm.Cond.methodLink "jdk/internal/util/ArraysSupport" (91 : Nat) ({ cls := "java/lang/StringBuilder", name := "<init>", desc := "()V" } : Jvm.MethodName)) ∈ lw_all := lw_g (lw_at lw_m4 37 rfl) rfl
theorem q834 : (Jvm.Cond.stringRef "jdk/internal/util/ArraysSupport" (92 : Nat) "unrecognized basic type: ") ∈ lw_tbl := lw_at lw_m4 38 rfl
theorem q835 : (Jvm.Cond.methodLink "jdk/internal/util/ArraysSupport" (94 : Nat) ({ cls := "java/lang/StringBuilder", name := "append", desc := "(Ljava/lang/String;)Ljava/lang/StringBuilder;" } : Jvm.MethodName)) ∈ lw_all := lw_g (lw_at lw_m4 39 rfl) rfl
theorem q836 : (Jvm.Cond.methodLink "jdk/internal/util/ArraysSupport" (98 : Nat) ({ cls := "java/lang/StringBuilder", name := "append", desc := "(I)Ljava/lang/StringBuilder;" } : Jvm.MethodName)) ∈ lw_all := lw_g (lw_at lw_m4 40 rfl) rfl
theorem q837 : (Jvm.Cond.methodLink "jdk/internal/util/ArraysSupport" (101 : Nat) ({ cls := "java/lang/StringBuilder", name := "toString", desc := "()Ljava/lang/String;" } : Jvm.MethodName)) ∈ lw_all := lw_g (lw_at lw_m4 41 rfl) rfl
theorem q838 : (Jvm.Cond.methodLink "jdk/internal/util/ArraysSupport" (105 : Nat) ({ cls := "java/lang/IllegalArgumentException", name := "<init>", desc := "(Ljava/lang/String;)V" } : Jvm.MethodName)) ∈ lw_all := lw_g (lw_at lw_m4 42 rfl) rfl
theorem q86 : (Jvm.Cond.initialized "java/lang/Math") ∈ lw_all := lw_g (lw_at lw_m1 10 rfl) rfl
theorem q299 : (Jvm.Cond.static ({ cls := "java/lang/Math", name := "max", desc := "(II)I" } : Jvm.MethodName)) ∈ lw_all := lw_g (lw_at lw_m1 223 rfl) rfl
theorem q300 : (Jvm.Cond.code ({ cls := "java/lang/Math", name := "max", desc := "(II)I" } : Jvm.MethodName) prog_25_method_65_code (2 : Nat) (Option.some Jvm.ClassFile.FieldType.int)) ∈ lw_all := lw_g (lw_at lw_m1 224 rfl) rfl
theorem q335 : (Jvm.Cond.static ({ cls := "java/lang/Math", name := "min", desc := "(II)I" } : Jvm.MethodName)) ∈ lw_all := lw_g (lw_at lw_m2 19 rfl) rfl
theorem q336 : (Jvm.Cond.code ({ cls := "java/lang/Math", name := "min", desc := "(II)I" } : Jvm.MethodName) prog_25_method_69_code (2 : Nat) (Option.some Jvm.ClassFile.FieldType.int)) ∈ lw_all := lw_g (lw_at lw_m2 20 rfl) rfl
theorem q1064 : (Jvm.Cond.static ({ cls := "java/lang/Math", name := "abs", desc := "(I)I" } : Jvm.MethodName)) ∈ lw_all := lw_g (lw_at lw_m5 28 rfl) rfl
theorem q1065 : (Jvm.Cond.code ({ cls := "java/lang/Math", name := "abs", desc := "(I)I" } : Jvm.MethodName) prog_25_method_59_code (1 : Nat) (Option.some Jvm.ClassFile.FieldType.int)) ∈ lw_all := lw_g (lw_at lw_m5 29 rfl) rfl
theorem q88 : (Jvm.Cond.initialized "BridgeAuctionModel") ∈ lw_all := lw_g (lw_at lw_m1 12 rfl) rfl
theorem q318 : (Jvm.Cond.selects "BridgeAuctionModel" ({ cls := "java/lang/Object", name := "getClass", desc := "()Ljava/lang/Class;" } : Jvm.MethodName) ({ cls := "java/lang/Object", name := "getClass", desc := "()Ljava/lang/Class;" } : Jvm.MethodName)) ∈ lw_all := lw_g (lw_at lw_m2 2 rfl) rfl
theorem q1457 : (Jvm.Cond.instantiable "BridgeAuctionModel" (15 : Nat)) ∈ lw_all := lw_g (lw_at lw_m6 181 rfl) rfl
theorem q1459 : (Jvm.Cond.instanceMethod ({ cls := "BridgeAuctionModel", name := "<init>", desc := "()V" } : Jvm.MethodName)) ∈ lw_all := lw_g (lw_at lw_m6 183 rfl) rfl
theorem q1460 : (Jvm.Cond.code ({ cls := "BridgeAuctionModel", name := "<init>", desc := "()V" } : Jvm.MethodName) prog_11_method_1_code (1 : Nat) (Option.none : Option Jvm.ClassFile.FieldType)) ∈ lw_all := lw_g (lw_at lw_m6 184 rfl) rfl
theorem q1461 : (Jvm.Cond.methodLink "BridgeAuctionModel" (1 : Nat) ({ cls := "java/lang/Object", name := "<init>", desc := "()V" } : Jvm.MethodName)) ∈ lw_all := lw_g (lw_at lw_m6 185 rfl) rfl
theorem q1462 : (Jvm.Cond.methodLink "BridgeAuctionModel" (34 : Nat) ({ cls := "BridgeAuctionModel", name := "begins", desc := "(I)V" } : Jvm.MethodName)) ∈ lw_all := lw_g (lw_at lw_m6 186 rfl) rfl
theorem q1463 : (Jvm.Cond.privateMethod ({ cls := "BridgeAuctionModel", name := "begins", desc := "(I)V" } : Jvm.MethodName)) ∈ lw_tbl := lw_at lw_m6 187 rfl
theorem q1464 : (Jvm.Cond.instanceMethod ({ cls := "BridgeAuctionModel", name := "begins", desc := "(I)V" } : Jvm.MethodName)) ∈ lw_all := lw_g (lw_at lw_m6 188 rfl) rfl
theorem q1465 : (Jvm.Cond.code ({ cls := "BridgeAuctionModel", name := "begins", desc := "(I)V" } : Jvm.MethodName) prog_11_method_16_code (3 : Nat) (Option.none : Option Jvm.ClassFile.FieldType)) ∈ lw_all := lw_g (lw_at lw_m6 189 rfl) rfl
theorem q1466 : (Jvm.Cond.methodLink "BridgeAuctionModel" (49 : Nat) ({ cls := "BridgeAuctionModel", name := "in", desc := "(III)Z" } : Jvm.MethodName)) ∈ lw_all := lw_g (lw_at lw_m6 190 rfl) rfl
theorem q1467 : (Jvm.Cond.static ({ cls := "BridgeAuctionModel", name := "in", desc := "(III)Z" } : Jvm.MethodName)) ∈ lw_all := lw_g (lw_at lw_m6 191 rfl) rfl
theorem q1468 : (Jvm.Cond.code ({ cls := "BridgeAuctionModel", name := "in", desc := "(III)Z" } : Jvm.MethodName) prog_11_method_3_code (3 : Nat) (Option.some Jvm.ClassFile.FieldType.boolean)) ∈ lw_all := lw_g (lw_at lw_m6 192 rfl) rfl
theorem q1469 : (Jvm.Cond.methodLink "BridgeAuctionModel" (56 : Nat) ({ cls := "BridgeAuctionModel", name := "startsAnew", desc := "(I)V" } : Jvm.MethodName)) ∈ lw_all := lw_g (lw_at lw_m6 193 rfl) rfl
theorem q1470 : (Jvm.Cond.privateMethod ({ cls := "BridgeAuctionModel", name := "startsAnew", desc := "(I)V" } : Jvm.MethodName)) ∈ lw_tbl := lw_at lw_m6 194 rfl
theorem q1471 : (Jvm.Cond.instanceMethod ({ cls := "BridgeAuctionModel", name := "startsAnew", desc := "(I)V" } : Jvm.MethodName)) ∈ lw_all := lw_g (lw_at lw_m6 195 rfl) rfl
theorem q1472 : (Jvm.Cond.code ({ cls := "BridgeAuctionModel", name := "startsAnew", desc := "(I)V" } : Jvm.MethodName) prog_11_method_15_code (3 : Nat) (Option.none : Option Jvm.ClassFile.FieldType)) ∈ lw_all := lw_g (lw_at lw_m6 196 rfl) rfl
theorem q1473 : (Jvm.Cond.methodLink "BridgeAuctionModel" (53 : Nat) ({ cls := "BridgeAuctionModel", name := "idOf", desc := "(I)I" } : Jvm.MethodName)) ∈ lw_all := lw_g (lw_at lw_m6 197 rfl) rfl
theorem q1474 : (Jvm.Cond.privateMethod ({ cls := "BridgeAuctionModel", name := "idOf", desc := "(I)I" } : Jvm.MethodName)) ∈ lw_tbl := lw_at lw_m6 198 rfl
theorem q1475 : (Jvm.Cond.instanceMethod ({ cls := "BridgeAuctionModel", name := "idOf", desc := "(I)I" } : Jvm.MethodName)) ∈ lw_all := lw_g (lw_at lw_m6 199 rfl) rfl
theorem q1476 : (Jvm.Cond.code ({ cls := "BridgeAuctionModel", name := "idOf", desc := "(I)I" } : Jvm.MethodName) prog_11_method_8_code (2 : Nat) (Option.some Jvm.ClassFile.FieldType.int)) ∈ lw_all := lw_g (lw_at lw_m6 200 rfl) rfl
theorem q1477 : (Jvm.Cond.methodLink "BridgeAuctionModel" (59 : Nat) ({ cls := "BridgeAuctionModel", name := "flushes", desc := "(I)V" } : Jvm.MethodName)) ∈ lw_all := lw_g (lw_at lw_m6 201 rfl) rfl
theorem q1478 : (Jvm.Cond.privateMethod ({ cls := "BridgeAuctionModel", name := "flushes", desc := "(I)V" } : Jvm.MethodName)) ∈ lw_tbl := lw_at lw_m6 202 rfl
theorem q1479 : (Jvm.Cond.instanceMethod ({ cls := "BridgeAuctionModel", name := "flushes", desc := "(I)V" } : Jvm.MethodName)) ∈ lw_all := lw_g (lw_at lw_m6 203 rfl) rfl
theorem q1480 : (Jvm.Cond.code ({ cls := "BridgeAuctionModel", name := "flushes", desc := "(I)V" } : Jvm.MethodName) prog_11_method_17_code (3 : Nat) (Option.none : Option Jvm.ClassFile.FieldType)) ∈ lw_all := lw_g (lw_at lw_m6 204 rfl) rfl
theorem q1481 : (Jvm.Cond.fieldLink "BridgeAuctionModel" (7 : Nat) "BridgeAuctionModel" "s" "[I") ∈ lw_all := lw_g (lw_at lw_m6 205 rfl) rfl
theorem q1482 : (Jvm.Cond.fieldLink "BridgeAuctionModel" (13 : Nat) "BridgeAuctionModel" "past" "[I") ∈ lw_all := lw_g (lw_at lw_m6 206 rfl) rfl
theorem q1483 : (Jvm.Cond.fieldLink "BridgeAuctionModel" (16 : Nat) "BridgeAuctionModel" "aside" "[I") ∈ lw_all := lw_g (lw_at lw_m6 207 rfl) rfl
theorem q1484 : (Jvm.Cond.fieldLink "BridgeAuctionModel" (42 : Nat) "BridgeAuctionModel" "pasts" "I") ∈ lw_all := lw_g (lw_at lw_m6 208 rfl) rfl
theorem q1485 : (Jvm.Cond.fieldLink "BridgeAuctionModel" (19 : Nat) "BridgeAuctionModel" "script" "[I") ∈ lw_all := lw_g (lw_at lw_m6 209 rfl) rfl
theorem q1486 : (Jvm.Cond.fieldLink "BridgeAuctionModel" (202 : Nat) "BridgeAuctionModel" "typed" "I") ∈ lw_all := lw_g (lw_at lw_m6 210 rfl) rfl
theorem q1487 : (Jvm.Cond.fieldLink "BridgeAuctionModel" (38 : Nat) "BridgeAuctionModel" "thrown" "I") ∈ lw_all := lw_g (lw_at lw_m6 211 rfl) rfl
theorem q1488 : (Jvm.Cond.fieldLink "BridgeAuctionModel" (82 : Nat) "BridgeAuctionModel" "answer" "I") ∈ lw_all := lw_g (lw_at lw_m6 212 rfl) rfl
theorem q1489 : (Jvm.Cond.fieldLink "BridgeAuctionModel" (22 : Nat) "BridgeAuctionModel" "fresh" "[I") ∈ lw_all := lw_g (lw_at lw_m6 213 rfl) rfl
theorem q1490 : (Jvm.Cond.fieldLink "BridgeAuctionModel" (25 : Nat) "BridgeAuctionModel" "queue" "[I") ∈ lw_all := lw_g (lw_at lw_m6 214 rfl) rfl
theorem q1491 : (Jvm.Cond.fieldLink "BridgeAuctionModel" (28 : Nat) "BridgeAuctionModel" "cameBy" "[I") ∈ lw_all := lw_g (lw_at lw_m6 215 rfl) rfl
theorem q1492 : (Jvm.Cond.fieldLink "BridgeAuctionModel" (205 : Nat) "BridgeAuctionModel" "at" "I") ∈ lw_all := lw_g (lw_at lw_m6 216 rfl) rfl
theorem q1493 : (Jvm.Cond.fieldLink "BridgeAuctionModel" (221 : Nat) "BridgeAuctionModel" "word" "I") ∈ lw_all := lw_g (lw_at lw_m6 217 rfl) rfl
theorem q1494 : (Jvm.Cond.fieldLink "BridgeAuctionModel" (31 : Nat) "BridgeAuctionModel" "numbers" "[I") ∈ lw_all := lw_g (lw_at lw_m6 218 rfl) rfl
theorem q1495 : (Jvm.Cond.fieldLink "BridgeAuctionModel" (241 : Nat) "BridgeAuctionModel" "h" "J") ∈ lw_all := lw_g (lw_at lw_m6 219 rfl) rfl
theorem q1496 : (Jvm.Cond.laysFinal "BridgeAuctionModel" "BridgeAuctionModel" "s" "[I") ∈ lw_all := lw_g (lw_at lw_m6 220 rfl) rfl
theorem q1497 : (Jvm.Cond.soleField "BridgeAuctionModel" "s") ∈ lw_all := lw_g (lw_at lw_m6 221 rfl) rfl
theorem q1498 : (Jvm.Cond.laysFinal "BridgeAuctionModel" "BridgeAuctionModel" "past" "[I") ∈ lw_all := lw_g (lw_at lw_m6 222 rfl) rfl
theorem q1499 : (Jvm.Cond.soleField "BridgeAuctionModel" "past") ∈ lw_all := lw_g (lw_at lw_m6 223 rfl) rfl
theorem q1500 : (Jvm.Cond.laysFinal "BridgeAuctionModel" "BridgeAuctionModel" "aside" "[I") ∈ lw_all := lw_g (lw_at lw_m6 224 rfl) rfl
theorem q1501 : (Jvm.Cond.soleField "BridgeAuctionModel" "aside") ∈ lw_all := lw_g (lw_at lw_m6 225 rfl) rfl
theorem q1502 : (Jvm.Cond.lays "BridgeAuctionModel" "BridgeAuctionModel" "pasts" "I") ∈ lw_all := lw_g (lw_at lw_m6 226 rfl) rfl
theorem q1503 : (Jvm.Cond.soleField "BridgeAuctionModel" "pasts") ∈ lw_all := lw_g (lw_at lw_m6 227 rfl) rfl
theorem q1504 : (Jvm.Cond.laysFinal "BridgeAuctionModel" "BridgeAuctionModel" "script" "[I") ∈ lw_all := lw_g (lw_at lw_m6 228 rfl) rfl
theorem q1505 : (Jvm.Cond.soleField "BridgeAuctionModel" "script") ∈ lw_all := lw_g (lw_at lw_m6 229 rfl) rfl
theorem q1506 : (Jvm.Cond.lays "BridgeAuctionModel" "BridgeAuctionModel" "typed" "I") ∈ lw_all := lw_g (lw_at lw_m6 230 rfl) rfl
theorem q1507 : (Jvm.Cond.soleField "BridgeAuctionModel" "typed") ∈ lw_all := lw_g (lw_at lw_m6 231 rfl) rfl
theorem q1508 : (Jvm.Cond.lays "BridgeAuctionModel" "BridgeAuctionModel" "thrown" "I") ∈ lw_all := lw_g (lw_at lw_m6 232 rfl) rfl
theorem q1509 : (Jvm.Cond.soleField "BridgeAuctionModel" "thrown") ∈ lw_all := lw_g (lw_at lw_m6 233 rfl) rfl
theorem q1510 : (Jvm.Cond.lays "BridgeAuctionModel" "BridgeAuctionModel" "answer" "I") ∈ lw_all := lw_g (lw_at lw_m6 234 rfl) rfl
theorem q1511 : (Jvm.Cond.soleField "BridgeAuctionModel" "answer") ∈ lw_all := lw_g (lw_at lw_m6 235 rfl) rfl
theorem q1512 : (Jvm.Cond.laysFinal "BridgeAuctionModel" "BridgeAuctionModel" "fresh" "[I") ∈ lw_all := lw_g (lw_at lw_m6 236 rfl) rfl
theorem q1513 : (Jvm.Cond.soleField "BridgeAuctionModel" "fresh") ∈ lw_all := lw_g (lw_at lw_m6 237 rfl) rfl
theorem q1514 : (Jvm.Cond.laysFinal "BridgeAuctionModel" "BridgeAuctionModel" "queue" "[I") ∈ lw_all := lw_g (lw_at lw_m6 238 rfl) rfl
theorem q1515 : (Jvm.Cond.soleField "BridgeAuctionModel" "queue") ∈ lw_all := lw_g (lw_at lw_m6 239 rfl) rfl
theorem q1516 : (Jvm.Cond.laysFinal "BridgeAuctionModel" "BridgeAuctionModel" "cameBy" "[I") ∈ lw_all := lw_g (lw_at lw_m7 0 rfl) rfl
theorem q1517 : (Jvm.Cond.soleField "BridgeAuctionModel" "cameBy") ∈ lw_all := lw_g (lw_at lw_m7 1 rfl) rfl
theorem q1518 : (Jvm.Cond.lays "BridgeAuctionModel" "BridgeAuctionModel" "at" "I") ∈ lw_all := lw_g (lw_at lw_m7 2 rfl) rfl
theorem q1519 : (Jvm.Cond.soleField "BridgeAuctionModel" "at") ∈ lw_all := lw_g (lw_at lw_m7 3 rfl) rfl
theorem q1520 : (Jvm.Cond.lays "BridgeAuctionModel" "BridgeAuctionModel" "word" "I") ∈ lw_all := lw_g (lw_at lw_m7 4 rfl) rfl
theorem q1521 : (Jvm.Cond.soleField "BridgeAuctionModel" "word") ∈ lw_all := lw_g (lw_at lw_m7 5 rfl) rfl
theorem q1522 : (Jvm.Cond.laysFinal "BridgeAuctionModel" "BridgeAuctionModel" "numbers" "[I") ∈ lw_all := lw_g (lw_at lw_m7 6 rfl) rfl
theorem q1523 : (Jvm.Cond.soleField "BridgeAuctionModel" "numbers") ∈ lw_all := lw_g (lw_at lw_m7 7 rfl) rfl
theorem q1524 : (Jvm.Cond.lays "BridgeAuctionModel" "BridgeAuctionModel" "h" "J") ∈ lw_all := lw_g (lw_at lw_m7 8 rfl) rfl
theorem q1525 : (Jvm.Cond.soleField "BridgeAuctionModel" "h") ∈ lw_all := lw_g (lw_at lw_m7 9 rfl) rfl
theorem q1526 : (Jvm.Cond.superclass "BridgeAuctionModel" "java/lang/Object") ∈ lw_all := lw_g (lw_at lw_m7 10 rfl) rfl
theorem q1528 : (Jvm.Cond.instanceMethod ({ cls := "BridgeAuctionModel", name := "thrown", desc := "()I" } : Jvm.MethodName)) ∈ lw_all := lw_g (lw_at lw_m7 12 rfl) rfl
theorem q1529 : (Jvm.Cond.selects "BridgeAuctionModel" ({ cls := "BridgeAuctionModel", name := "thrown", desc := "()I" } : Jvm.MethodName) ({ cls := "BridgeAuctionModel", name := "thrown", desc := "()I" } : Jvm.MethodName)) ∈ lw_all := lw_g (lw_at lw_m7 13 rfl) rfl
theorem q1530 : (Jvm.Cond.code ({ cls := "BridgeAuctionModel", name := "thrown", desc := "()I" } : Jvm.MethodName) prog_11_method_2_code (1 : Nat) (Option.some Jvm.ClassFile.FieldType.int)) ∈ lw_all := lw_g (lw_at lw_m7 14 rfl) rfl
theorem q1532 : (Jvm.Cond.instanceMethod ({ cls := "BridgeAuctionModel", name := "setBridges", desc := "(I)I" } : Jvm.MethodName)) ∈ lw_all := lw_g (lw_at lw_m7 16 rfl) rfl
theorem q1533 : (Jvm.Cond.selects "BridgeAuctionModel" ({ cls := "BridgeAuctionModel", name := "setBridges", desc := "(I)I" } : Jvm.MethodName) ({ cls := "BridgeAuctionModel", name := "setBridges", desc := "(I)I" } : Jvm.MethodName)) ∈ lw_all := lw_g (lw_at lw_m7 17 rfl) rfl
theorem q1534 : (Jvm.Cond.code ({ cls := "BridgeAuctionModel", name := "setBridges", desc := "(I)I" } : Jvm.MethodName) prog_11_method_22_code (3 : Nat) (Option.some Jvm.ClassFile.FieldType.int)) ∈ lw_all := lw_g (lw_at lw_m7 18 rfl) rfl
theorem q1535 : (Jvm.Cond.methodLink "BridgeAuctionModel" (70 : Nat) ({ cls := "BridgeAuctionModel", name := "fails", desc := "(I)I" } : Jvm.MethodName)) ∈ lw_all := lw_g (lw_at lw_m7 19 rfl) rfl
theorem q1536 : (Jvm.Cond.privateMethod ({ cls := "BridgeAuctionModel", name := "fails", desc := "(I)I" } : Jvm.MethodName)) ∈ lw_tbl := lw_at lw_m7 20 rfl
theorem q1537 : (Jvm.Cond.instanceMethod ({ cls := "BridgeAuctionModel", name := "fails", desc := "(I)I" } : Jvm.MethodName)) ∈ lw_all := lw_g (lw_at lw_m7 21 rfl) rfl
theorem q1538 : (Jvm.Cond.code ({ cls := "BridgeAuctionModel", name := "fails", desc := "(I)I" } : Jvm.MethodName) prog_11_method_4_code (2 : Nat) (Option.some Jvm.ClassFile.FieldType.int)) ∈ lw_all := lw_g (lw_at lw_m7 22 rfl) rfl
theorem q1539 : (Jvm.Cond.methodLink "BridgeAuctionModel" (73 : Nat) ({ cls := "BridgeAuctionModel", name := "hold", desc := "()V" } : Jvm.MethodName)) ∈ lw_all := lw_g (lw_at lw_m7 23 rfl) rfl
theorem q1540 : (Jvm.Cond.privateMethod ({ cls := "BridgeAuctionModel", name := "hold", desc := "()V" } : Jvm.MethodName)) ∈ lw_tbl := lw_at lw_m7 24 rfl
theorem q1541 : (Jvm.Cond.instanceMethod ({ cls := "BridgeAuctionModel", name := "hold", desc := "()V" } : Jvm.MethodName)) ∈ lw_all := lw_g (lw_at lw_m7 25 rfl) rfl
theorem q1542 : (Jvm.Cond.code ({ cls := "BridgeAuctionModel", name := "hold", desc := "()V" } : Jvm.MethodName) prog_11_method_6_code (2 : Nat) (Option.none : Option Jvm.ClassFile.FieldType)) ∈ lw_all := lw_g (lw_at lw_m7 26 rfl) rfl
theorem q1543 : (Jvm.Cond.methodLink "BridgeAuctionModel" (76 : Nat) ({ cls := "BridgeAuctionModel", name := "ends", desc := "(I)I" } : Jvm.MethodName)) ∈ lw_all := lw_g (lw_at lw_m7 27 rfl) rfl
theorem q1544 : (Jvm.Cond.privateMethod ({ cls := "BridgeAuctionModel", name := "ends", desc := "(I)I" } : Jvm.MethodName)) ∈ lw_tbl := lw_at lw_m7 28 rfl
theorem q1545 : (Jvm.Cond.instanceMethod ({ cls := "BridgeAuctionModel", name := "ends", desc := "(I)I" } : Jvm.MethodName)) ∈ lw_all := lw_g (lw_at lw_m7 29 rfl) rfl
theorem q1546 : (Jvm.Cond.code ({ cls := "BridgeAuctionModel", name := "ends", desc := "(I)I" } : Jvm.MethodName) prog_11_method_7_code (3 : Nat) (Option.some Jvm.ClassFile.FieldType.int)) ∈ lw_all := lw_g (lw_at lw_m7 30 rfl) rfl
theorem q1547 : (Jvm.Cond.methodLink "BridgeAuctionModel" (45 : Nat) ({ cls := "BridgeAuctionModel", name := "tells", desc := "(I)I" } : Jvm.MethodName)) ∈ lw_all := lw_g (lw_at lw_m7 31 rfl) rfl
theorem q1548 : (Jvm.Cond.privateMethod ({ cls := "BridgeAuctionModel", name := "tells", desc := "(I)I" } : Jvm.MethodName)) ∈ lw_tbl := lw_at lw_m7 32 rfl
theorem q1549 : (Jvm.Cond.instanceMethod ({ cls := "BridgeAuctionModel", name := "tells", desc := "(I)I" } : Jvm.MethodName)) ∈ lw_all := lw_g (lw_at lw_m7 33 rfl) rfl
theorem q1550 : (Jvm.Cond.code ({ cls := "BridgeAuctionModel", name := "tells", desc := "(I)I" } : Jvm.MethodName) prog_11_method_5_code (2 : Nat) (Option.some Jvm.ClassFile.FieldType.int)) ∈ lw_all := lw_g (lw_at lw_m7 34 rfl) rfl
theorem q1552 : (Jvm.Cond.instanceMethod ({ cls := "BridgeAuctionModel", name := "setTimes", desc := "(III)I" } : Jvm.MethodName)) ∈ lw_all := lw_g (lw_at lw_m7 36 rfl) rfl
theorem q1553 : (Jvm.Cond.selects "BridgeAuctionModel" ({ cls := "BridgeAuctionModel", name := "setTimes", desc := "(III)I" } : Jvm.MethodName) ({ cls := "BridgeAuctionModel", name := "setTimes", desc := "(III)I" } : Jvm.MethodName)) ∈ lw_all := lw_g (lw_at lw_m7 37 rfl) rfl
theorem q1554 : (Jvm.Cond.code ({ cls := "BridgeAuctionModel", name := "setTimes", desc := "(III)I" } : Jvm.MethodName) prog_11_method_23_code (5 : Nat) (Option.some Jvm.ClassFile.FieldType.int)) ∈ lw_all := lw_g (lw_at lw_m7 38 rfl) rfl
theorem q1556 : (Jvm.Cond.instanceMethod ({ cls := "BridgeAuctionModel", name := "setPriority", desc := "(II)I" } : Jvm.MethodName)) ∈ lw_all := lw_g (lw_at lw_m7 40 rfl) rfl
theorem q1557 : (Jvm.Cond.selects "BridgeAuctionModel" ({ cls := "BridgeAuctionModel", name := "setPriority", desc := "(II)I" } : Jvm.MethodName) ({ cls := "BridgeAuctionModel", name := "setPriority", desc := "(II)I" } : Jvm.MethodName)) ∈ lw_all := lw_g (lw_at lw_m7 41 rfl) rfl
theorem q1558 : (Jvm.Cond.code ({ cls := "BridgeAuctionModel", name := "setPriority", desc := "(II)I" } : Jvm.MethodName) prog_11_method_32_code (3 : Nat) (Option.some Jvm.ClassFile.FieldType.int)) ∈ lw_all := lw_g (lw_at lw_m7 42 rfl) rfl
theorem q1559 : (Jvm.Cond.methodLink "BridgeAuctionModel" (101 : Nat) ({ cls := "BridgeAuctionModel", name := "prioritizes", desc := "(II)I" } : Jvm.MethodName)) ∈ lw_all := lw_g (lw_at lw_m7 43 rfl) rfl
theorem q1560 : (Jvm.Cond.privateMethod ({ cls := "BridgeAuctionModel", name := "prioritizes", desc := "(II)I" } : Jvm.MethodName)) ∈ lw_tbl := lw_at lw_m7 44 rfl
theorem q1561 : (Jvm.Cond.instanceMethod ({ cls := "BridgeAuctionModel", name := "prioritizes", desc := "(II)I" } : Jvm.MethodName)) ∈ lw_all := lw_g (lw_at lw_m7 45 rfl) rfl
theorem q1562 : (Jvm.Cond.code ({ cls := "BridgeAuctionModel", name := "prioritizes", desc := "(II)I" } : Jvm.MethodName) prog_11_method_24_code (3 : Nat) (Option.some Jvm.ClassFile.FieldType.int)) ∈ lw_all := lw_g (lw_at lw_m7 46 rfl) rfl
theorem q1563 : (Jvm.Cond.methodLink "BridgeAuctionModel" (79 : Nat) ({ cls := "BridgeAuctionModel", name := "isBridge", desc := "(I)Z" } : Jvm.MethodName)) ∈ lw_all := lw_g (lw_at lw_m7 47 rfl) rfl
theorem q1564 : (Jvm.Cond.privateMethod ({ cls := "BridgeAuctionModel", name := "isBridge", desc := "(I)Z" } : Jvm.MethodName)) ∈ lw_tbl := lw_at lw_m7 48 rfl
theorem q1565 : (Jvm.Cond.instanceMethod ({ cls := "BridgeAuctionModel", name := "isBridge", desc := "(I)Z" } : Jvm.MethodName)) ∈ lw_all := lw_g (lw_at lw_m7 49 rfl) rfl
theorem q1566 : (Jvm.Cond.code ({ cls := "BridgeAuctionModel", name := "isBridge", desc := "(I)Z" } : Jvm.MethodName) prog_11_method_11_code (2 : Nat) (Option.some Jvm.ClassFile.FieldType.boolean)) ∈ lw_all := lw_g (lw_at lw_m7 50 rfl) rfl
theorem q1567 : (Jvm.Cond.methodLink "BridgeAuctionModel" (104 : Nat) ({ cls := "BridgeAuctionModel", name := "done", desc := "(I)I" } : Jvm.MethodName)) ∈ lw_all := lw_g (lw_at lw_m7 51 rfl) rfl
theorem q1568 : (Jvm.Cond.privateMethod ({ cls := "BridgeAuctionModel", name := "done", desc := "(I)I" } : Jvm.MethodName)) ∈ lw_tbl := lw_at lw_m7 52 rfl
theorem q1569 : (Jvm.Cond.instanceMethod ({ cls := "BridgeAuctionModel", name := "done", desc := "(I)I" } : Jvm.MethodName)) ∈ lw_all := lw_g (lw_at lw_m7 53 rfl) rfl
theorem q1570 : (Jvm.Cond.code ({ cls := "BridgeAuctionModel", name := "done", desc := "(I)I" } : Jvm.MethodName) prog_11_method_31_code (2 : Nat) (Option.some Jvm.ClassFile.FieldType.int)) ∈ lw_all := lw_g (lw_at lw_m7 54 rfl) rfl
theorem q1572 : (Jvm.Cond.instanceMethod ({ cls := "BridgeAuctionModel", name := "addLink", desc := "(III)I" } : Jvm.MethodName)) ∈ lw_all := lw_g (lw_at lw_m7 56 rfl) rfl
theorem q1573 : (Jvm.Cond.selects "BridgeAuctionModel" ({ cls := "BridgeAuctionModel", name := "addLink", desc := "(III)I" } : Jvm.MethodName) ({ cls := "BridgeAuctionModel", name := "addLink", desc := "(III)I" } : Jvm.MethodName)) ∈ lw_all := lw_g (lw_at lw_m7 57 rfl) rfl
theorem q1574 : (Jvm.Cond.code ({ cls := "BridgeAuctionModel", name := "addLink", desc := "(III)I" } : Jvm.MethodName) prog_11_method_33_code (4 : Nat) (Option.some Jvm.ClassFile.FieldType.int)) ∈ lw_all := lw_g (lw_at lw_m7 58 rfl) rfl
theorem q1575 : (Jvm.Cond.methodLink "BridgeAuctionModel" (107 : Nat) ({ cls := "BridgeAuctionModel", name := "joins", desc := "(III)I" } : Jvm.MethodName)) ∈ lw_all := lw_g (lw_at lw_m7 59 rfl) rfl
theorem q1576 : (Jvm.Cond.privateMethod ({ cls := "BridgeAuctionModel", name := "joins", desc := "(III)I" } : Jvm.MethodName)) ∈ lw_tbl := lw_at lw_m7 60 rfl
theorem q1577 : (Jvm.Cond.instanceMethod ({ cls := "BridgeAuctionModel", name := "joins", desc := "(III)I" } : Jvm.MethodName)) ∈ lw_all := lw_g (lw_at lw_m7 61 rfl) rfl
theorem q1578 : (Jvm.Cond.code ({ cls := "BridgeAuctionModel", name := "joins", desc := "(III)I" } : Jvm.MethodName) prog_11_method_25_code (5 : Nat) (Option.some Jvm.ClassFile.FieldType.int)) ∈ lw_all := lw_g (lw_at lw_m7 62 rfl) rfl
theorem q1579 : (Jvm.Cond.methodLink "BridgeAuctionModel" (85 : Nat) ({ cls := "BridgeAuctionModel", name := "puts", desc := "(III)V" } : Jvm.MethodName)) ∈ lw_all := lw_g (lw_at lw_m7 63 rfl) rfl
theorem q1580 : (Jvm.Cond.privateMethod ({ cls := "BridgeAuctionModel", name := "puts", desc := "(III)V" } : Jvm.MethodName)) ∈ lw_tbl := lw_at lw_m7 64 rfl
theorem q1581 : (Jvm.Cond.instanceMethod ({ cls := "BridgeAuctionModel", name := "puts", desc := "(III)V" } : Jvm.MethodName)) ∈ lw_all := lw_g (lw_at lw_m7 65 rfl) rfl
theorem q1582 : (Jvm.Cond.code ({ cls := "BridgeAuctionModel", name := "puts", desc := "(III)V" } : Jvm.MethodName) prog_11_method_10_code (4 : Nat) (Option.none : Option Jvm.ClassFile.FieldType)) ∈ lw_all := lw_g (lw_at lw_m7 66 rfl) rfl
theorem q1584 : (Jvm.Cond.instanceMethod ({ cls := "BridgeAuctionModel", name := "fail", desc := "(I)I" } : Jvm.MethodName)) ∈ lw_all := lw_g (lw_at lw_m7 68 rfl) rfl
theorem q1585 : (Jvm.Cond.selects "BridgeAuctionModel" ({ cls := "BridgeAuctionModel", name := "fail", desc := "(I)I" } : Jvm.MethodName) ({ cls := "BridgeAuctionModel", name := "fail", desc := "(I)I" } : Jvm.MethodName)) ∈ lw_all := lw_g (lw_at lw_m7 69 rfl) rfl
theorem q1586 : (Jvm.Cond.code ({ cls := "BridgeAuctionModel", name := "fail", desc := "(I)I" } : Jvm.MethodName) prog_11_method_34_code (2 : Nat) (Option.some Jvm.ClassFile.FieldType.int)) ∈ lw_all := lw_g (lw_at lw_m7 70 rfl) rfl
theorem q1587 : (Jvm.Cond.methodLink "BridgeAuctionModel" (111 : Nat) ({ cls := "BridgeAuctionModel", name := "breaks", desc := "(I)I" } : Jvm.MethodName)) ∈ lw_all := lw_g (lw_at lw_m7 71 rfl) rfl
theorem q1588 : (Jvm.Cond.privateMethod ({ cls := "BridgeAuctionModel", name := "breaks", desc := "(I)I" } : Jvm.MethodName)) ∈ lw_tbl := lw_at lw_m7 72 rfl
theorem q1589 : (Jvm.Cond.instanceMethod ({ cls := "BridgeAuctionModel", name := "breaks", desc := "(I)I" } : Jvm.MethodName)) ∈ lw_all := lw_g (lw_at lw_m7 73 rfl) rfl
theorem q1590 : (Jvm.Cond.code ({ cls := "BridgeAuctionModel", name := "breaks", desc := "(I)I" } : Jvm.MethodName) prog_11_method_26_code (4 : Nat) (Option.some Jvm.ClassFile.FieldType.int)) ∈ lw_all := lw_g (lw_at lw_m7 74 rfl) rfl
theorem q1591 : (Jvm.Cond.methodLink "BridgeAuctionModel" (89 : Nat) ({ cls := "BridgeAuctionModel", name := "isLink", desc := "(I)Z" } : Jvm.MethodName)) ∈ lw_all := lw_g (lw_at lw_m7 75 rfl) rfl
theorem q1592 : (Jvm.Cond.privateMethod ({ cls := "BridgeAuctionModel", name := "isLink", desc := "(I)Z" } : Jvm.MethodName)) ∈ lw_tbl := lw_at lw_m7 76 rfl
theorem q1593 : (Jvm.Cond.instanceMethod ({ cls := "BridgeAuctionModel", name := "isLink", desc := "(I)Z" } : Jvm.MethodName)) ∈ lw_all := lw_g (lw_at lw_m7 77 rfl) rfl
theorem q1594 : (Jvm.Cond.code ({ cls := "BridgeAuctionModel", name := "isLink", desc := "(I)Z" } : Jvm.MethodName) prog_11_method_12_code (2 : Nat) (Option.some Jvm.ClassFile.FieldType.boolean)) ∈ lw_all := lw_g (lw_at lw_m7 78 rfl) rfl
theorem q1595 : (Jvm.Cond.methodLink "BridgeAuctionModel" (62 : Nat) ({ cls := "BridgeAuctionModel", name := "of", desc := "(II)I" } : Jvm.MethodName)) ∈ lw_all := lw_g (lw_at lw_m7 79 rfl) rfl
theorem q1596 : (Jvm.Cond.privateMethod ({ cls := "BridgeAuctionModel", name := "of", desc := "(II)I" } : Jvm.MethodName)) ∈ lw_tbl := lw_at lw_m7 80 rfl
theorem q1597 : (Jvm.Cond.instanceMethod ({ cls := "BridgeAuctionModel", name := "of", desc := "(II)I" } : Jvm.MethodName)) ∈ lw_all := lw_g (lw_at lw_m7 81 rfl) rfl
theorem q1598 : (Jvm.Cond.code ({ cls := "BridgeAuctionModel", name := "of", desc := "(II)I" } : Jvm.MethodName) prog_11_method_9_code (3 : Nat) (Option.some Jvm.ClassFile.FieldType.int)) ∈ lw_all := lw_g (lw_at lw_m7 82 rfl) rfl
theorem q1600 : (Jvm.Cond.instanceMethod ({ cls := "BridgeAuctionModel", name := "fix", desc := "(I)I" } : Jvm.MethodName)) ∈ lw_all := lw_g (lw_at lw_m7 84 rfl) rfl
theorem q1601 : (Jvm.Cond.selects "BridgeAuctionModel" ({ cls := "BridgeAuctionModel", name := "fix", desc := "(I)I" } : Jvm.MethodName) ({ cls := "BridgeAuctionModel", name := "fix", desc := "(I)I" } : Jvm.MethodName)) ∈ lw_all := lw_g (lw_at lw_m7 85 rfl) rfl
theorem q1602 : (Jvm.Cond.code ({ cls := "BridgeAuctionModel", name := "fix", desc := "(I)I" } : Jvm.MethodName) prog_11_method_35_code (2 : Nat) (Option.some Jvm.ClassFile.FieldType.int)) ∈ lw_all := lw_g (lw_at lw_m7 86 rfl) rfl
theorem q1603 : (Jvm.Cond.methodLink "BridgeAuctionModel" (114 : Nat) ({ cls := "BridgeAuctionModel", name := "mends", desc := "(I)I" } : Jvm.MethodName)) ∈ lw_all := lw_g (lw_at lw_m7 87 rfl) rfl
theorem q1604 : (Jvm.Cond.privateMethod ({ cls := "BridgeAuctionModel", name := "mends", desc := "(I)I" } : Jvm.MethodName)) ∈ lw_tbl := lw_at lw_m7 88 rfl
theorem q1605 : (Jvm.Cond.instanceMethod ({ cls := "BridgeAuctionModel", name := "mends", desc := "(I)I" } : Jvm.MethodName)) ∈ lw_all := lw_g (lw_at lw_m7 89 rfl) rfl
theorem q1606 : (Jvm.Cond.code ({ cls := "BridgeAuctionModel", name := "mends", desc := "(I)I" } : Jvm.MethodName) prog_11_method_27_code (3 : Nat) (Option.some Jvm.ClassFile.FieldType.int)) ∈ lw_all := lw_g (lw_at lw_m7 90 rfl) rfl
theorem q1608 : (Jvm.Cond.instanceMethod ({ cls := "BridgeAuctionModel", name := "moveHost", desc := "(II)I" } : Jvm.MethodName)) ∈ lw_all := lw_g (lw_at lw_m7 92 rfl) rfl
theorem q1609 : (Jvm.Cond.selects "BridgeAuctionModel" ({ cls := "BridgeAuctionModel", name := "moveHost", desc := "(II)I" } : Jvm.MethodName) ({ cls := "BridgeAuctionModel", name := "moveHost", desc := "(II)I" } : Jvm.MethodName)) ∈ lw_all := lw_g (lw_at lw_m7 93 rfl) rfl
theorem q1610 : (Jvm.Cond.code ({ cls := "BridgeAuctionModel", name := "moveHost", desc := "(II)I" } : Jvm.MethodName) prog_11_method_36_code (3 : Nat) (Option.some Jvm.ClassFile.FieldType.int)) ∈ lw_all := lw_g (lw_at lw_m7 94 rfl) rfl
theorem q1611 : (Jvm.Cond.methodLink "BridgeAuctionModel" (117 : Nat) ({ cls := "BridgeAuctionModel", name := "moves", desc := "(II)I" } : Jvm.MethodName)) ∈ lw_all := lw_g (lw_at lw_m7 95 rfl) rfl
theorem q1612 : (Jvm.Cond.privateMethod ({ cls := "BridgeAuctionModel", name := "moves", desc := "(II)I" } : Jvm.MethodName)) ∈ lw_tbl := lw_at lw_m7 96 rfl
theorem q1613 : (Jvm.Cond.instanceMethod ({ cls := "BridgeAuctionModel", name := "moves", desc := "(II)I" } : Jvm.MethodName)) ∈ lw_all := lw_g (lw_at lw_m7 97 rfl) rfl
theorem q1614 : (Jvm.Cond.code ({ cls := "BridgeAuctionModel", name := "moves", desc := "(II)I" } : Jvm.MethodName) prog_11_method_28_code (3 : Nat) (Option.some Jvm.ClassFile.FieldType.int)) ∈ lw_all := lw_g (lw_at lw_m7 98 rfl) rfl
theorem q1615 : (Jvm.Cond.methodLink "BridgeAuctionModel" (92 : Nat) ({ cls := "BridgeAuctionModel", name := "isHost", desc := "(I)Z" } : Jvm.MethodName)) ∈ lw_all := lw_g (lw_at lw_m7 99 rfl) rfl
theorem q1616 : (Jvm.Cond.static ({ cls := "BridgeAuctionModel", name := "isHost", desc := "(I)Z" } : Jvm.MethodName)) ∈ lw_all := lw_g (lw_at lw_m7 100 rfl) rfl
theorem q1617 : (Jvm.Cond.code ({ cls := "BridgeAuctionModel", name := "isHost", desc := "(I)Z" } : Jvm.MethodName) prog_11_method_13_code (1 : Nat) (Option.some Jvm.ClassFile.FieldType.boolean)) ∈ lw_all := lw_g (lw_at lw_m7 101 rfl) rfl
theorem q1619 : (Jvm.Cond.instanceMethod ({ cls := "BridgeAuctionModel", name := "bid", desc := "(III)I" } : Jvm.MethodName)) ∈ lw_all := lw_g (lw_at lw_m7 103 rfl) rfl
theorem q1620 : (Jvm.Cond.selects "BridgeAuctionModel" ({ cls := "BridgeAuctionModel", name := "bid", desc := "(III)I" } : Jvm.MethodName) ({ cls := "BridgeAuctionModel", name := "bid", desc := "(III)I" } : Jvm.MethodName)) ∈ lw_all := lw_g (lw_at lw_m7 104 rfl) rfl
theorem q1621 : (Jvm.Cond.code ({ cls := "BridgeAuctionModel", name := "bid", desc := "(III)I" } : Jvm.MethodName) prog_11_method_37_code (4 : Nat) (Option.some Jvm.ClassFile.FieldType.int)) ∈ lw_all := lw_g (lw_at lw_m7 105 rfl) rfl
theorem q1622 : (Jvm.Cond.methodLink "BridgeAuctionModel" (120 : Nat) ({ cls := "BridgeAuctionModel", name := "bids", desc := "(III)I" } : Jvm.MethodName)) ∈ lw_all := lw_g (lw_at lw_m7 106 rfl) rfl
theorem q1623 : (Jvm.Cond.privateMethod ({ cls := "BridgeAuctionModel", name := "bids", desc := "(III)I" } : Jvm.MethodName)) ∈ lw_tbl := lw_at lw_m7 107 rfl
theorem q1624 : (Jvm.Cond.instanceMethod ({ cls := "BridgeAuctionModel", name := "bids", desc := "(III)I" } : Jvm.MethodName)) ∈ lw_all := lw_g (lw_at lw_m7 108 rfl) rfl
theorem q1625 : (Jvm.Cond.code ({ cls := "BridgeAuctionModel", name := "bids", desc := "(III)I" } : Jvm.MethodName) prog_11_method_29_code (4 : Nat) (Option.some Jvm.ClassFile.FieldType.int)) ∈ lw_all := lw_g (lw_at lw_m7 109 rfl) rfl
theorem q1626 : (Jvm.Cond.methodLink "BridgeAuctionModel" (95 : Nat) ({ cls := "BridgeAuctionModel", name := "isTenant", desc := "(I)Z" } : Jvm.MethodName)) ∈ lw_all := lw_g (lw_at lw_m7 110 rfl) rfl
theorem q1627 : (Jvm.Cond.static ({ cls := "BridgeAuctionModel", name := "isTenant", desc := "(I)Z" } : Jvm.MethodName)) ∈ lw_all := lw_g (lw_at lw_m7 111 rfl) rfl
theorem q1628 : (Jvm.Cond.code ({ cls := "BridgeAuctionModel", name := "isTenant", desc := "(I)Z" } : Jvm.MethodName) prog_11_method_14_code (1 : Nat) (Option.some Jvm.ClassFile.FieldType.boolean)) ∈ lw_all := lw_g (lw_at lw_m7 112 rfl) rfl
theorem q1630 : (Jvm.Cond.instanceMethod ({ cls := "BridgeAuctionModel", name := "grant", desc := "(II)I" } : Jvm.MethodName)) ∈ lw_all := lw_g (lw_at lw_m7 114 rfl) rfl
theorem q1631 : (Jvm.Cond.selects "BridgeAuctionModel" ({ cls := "BridgeAuctionModel", name := "grant", desc := "(II)I" } : Jvm.MethodName) ({ cls := "BridgeAuctionModel", name := "grant", desc := "(II)I" } : Jvm.MethodName)) ∈ lw_all := lw_g (lw_at lw_m7 115 rfl) rfl
theorem q1632 : (Jvm.Cond.code ({ cls := "BridgeAuctionModel", name := "grant", desc := "(II)I" } : Jvm.MethodName) prog_11_method_38_code (3 : Nat) (Option.some Jvm.ClassFile.FieldType.int)) ∈ lw_all := lw_g (lw_at lw_m7 116 rfl) rfl
theorem q1633 : (Jvm.Cond.constant "BridgeAuctionModel" (123 : Nat) (1000000 : Int32)) ∈ lw_all := lw_g (lw_at lw_m7 117 rfl) rfl
theorem q1635 : (Jvm.Cond.instanceMethod ({ cls := "BridgeAuctionModel", name := "tick", desc := "(I)I" } : Jvm.MethodName)) ∈ lw_all := lw_g (lw_at lw_m7 119 rfl) rfl
theorem q1636 : (Jvm.Cond.selects "BridgeAuctionModel" ({ cls := "BridgeAuctionModel", name := "tick", desc := "(I)I" } : Jvm.MethodName) ({ cls := "BridgeAuctionModel", name := "tick", desc := "(I)I" } : Jvm.MethodName)) ∈ lw_all := lw_g (lw_at lw_m7 120 rfl) rfl
theorem q1637 : (Jvm.Cond.code ({ cls := "BridgeAuctionModel", name := "tick", desc := "(I)I" } : Jvm.MethodName) prog_11_method_39_code (2 : Nat) (Option.some Jvm.ClassFile.FieldType.int)) ∈ lw_all := lw_g (lw_at lw_m7 121 rfl) rfl
theorem q1638 : (Jvm.Cond.methodLink "BridgeAuctionModel" (124 : Nat) ({ cls := "BridgeAuctionModel", name := "ticks", desc := "(I)I" } : Jvm.MethodName)) ∈ lw_all := lw_g (lw_at lw_m7 122 rfl) rfl
theorem q1639 : (Jvm.Cond.privateMethod ({ cls := "BridgeAuctionModel", name := "ticks", desc := "(I)I" } : Jvm.MethodName)) ∈ lw_tbl := lw_at lw_m7 123 rfl
theorem q1640 : (Jvm.Cond.instanceMethod ({ cls := "BridgeAuctionModel", name := "ticks", desc := "(I)I" } : Jvm.MethodName)) ∈ lw_all := lw_g (lw_at lw_m7 124 rfl) rfl
theorem q1641 : (Jvm.Cond.code ({ cls := "BridgeAuctionModel", name := "ticks", desc := "(I)I" } : Jvm.MethodName) prog_11_method_30_code (3 : Nat) (Option.some Jvm.ClassFile.FieldType.int)) ∈ lw_all := lw_g (lw_at lw_m7 125 rfl) rfl
theorem q1642 : (Jvm.Cond.methodLink "BridgeAuctionModel" (98 : Nat) ({ cls := "BridgeAuctionModel", name := "ticksOnce", desc := "()V" } : Jvm.MethodName)) ∈ lw_all := lw_g (lw_at lw_m7 126 rfl) rfl
theorem q1643 : (Jvm.Cond.privateMethod ({ cls := "BridgeAuctionModel", name := "ticksOnce", desc := "()V" } : Jvm.MethodName)) ∈ lw_tbl := lw_at lw_m7 127 rfl
theorem q1644 : (Jvm.Cond.instanceMethod ({ cls := "BridgeAuctionModel", name := "ticksOnce", desc := "()V" } : Jvm.MethodName)) ∈ lw_all := lw_g (lw_at lw_m7 128 rfl) rfl
theorem q1645 : (Jvm.Cond.code ({ cls := "BridgeAuctionModel", name := "ticksOnce", desc := "()V" } : Jvm.MethodName) prog_11_method_41_code (1 : Nat) (Option.none : Option Jvm.ClassFile.FieldType)) ∈ lw_all := lw_g (lw_at lw_m7 129 rfl) rfl
theorem q1646 : (Jvm.Cond.methodLink "BridgeAuctionModel" (127 : Nat) ({ cls := "BridgeAuctionModel", name := "auctions", desc := "()V" } : Jvm.MethodName)) ∈ lw_all := lw_g (lw_at lw_m7 130 rfl) rfl
theorem q1647 : (Jvm.Cond.privateMethod ({ cls := "BridgeAuctionModel", name := "auctions", desc := "()V" } : Jvm.MethodName)) ∈ lw_tbl := lw_at lw_m7 131 rfl
theorem q1648 : (Jvm.Cond.instanceMethod ({ cls := "BridgeAuctionModel", name := "auctions", desc := "()V" } : Jvm.MethodName)) ∈ lw_all := lw_g (lw_at lw_m7 132 rfl) rfl
theorem q1649 : (Jvm.Cond.code ({ cls := "BridgeAuctionModel", name := "auctions", desc := "()V" } : Jvm.MethodName) prog_11_method_45_code (2 : Nat) (Option.none : Option Jvm.ClassFile.FieldType)) ∈ lw_all := lw_g (lw_at lw_m7 133 rfl) rfl
theorem q1650 : (Jvm.Cond.methodLink "BridgeAuctionModel" (143 : Nat) ({ cls := "BridgeAuctionModel", name := "sells", desc := "(I)V" } : Jvm.MethodName)) ∈ lw_all := lw_g (lw_at lw_m7 134 rfl) rfl
theorem q1651 : (Jvm.Cond.privateMethod ({ cls := "BridgeAuctionModel", name := "sells", desc := "(I)V" } : Jvm.MethodName)) ∈ lw_tbl := lw_at lw_m7 135 rfl
theorem q1652 : (Jvm.Cond.instanceMethod ({ cls := "BridgeAuctionModel", name := "sells", desc := "(I)V" } : Jvm.MethodName)) ∈ lw_all := lw_g (lw_at lw_m7 136 rfl) rfl
theorem q1653 : (Jvm.Cond.code ({ cls := "BridgeAuctionModel", name := "sells", desc := "(I)V" } : Jvm.MethodName) prog_11_method_44_code (8 : Nat) (Option.none : Option Jvm.ClassFile.FieldType)) ∈ lw_all := lw_g (lw_at lw_m7 137 rfl) rfl
theorem q1654 : (Jvm.Cond.methodLink "BridgeAuctionModel" (140 : Nat) ({ cls := "BridgeAuctionModel", name := "greatest", desc := "(II)I" } : Jvm.MethodName)) ∈ lw_all := lw_g (lw_at lw_m7 138 rfl) rfl
theorem q1655 : (Jvm.Cond.privateMethod ({ cls := "BridgeAuctionModel", name := "greatest", desc := "(II)I" } : Jvm.MethodName)) ∈ lw_tbl := lw_at lw_m7 139 rfl
theorem q1656 : (Jvm.Cond.instanceMethod ({ cls := "BridgeAuctionModel", name := "greatest", desc := "(II)I" } : Jvm.MethodName)) ∈ lw_all := lw_g (lw_at lw_m7 140 rfl) rfl
theorem q1657 : (Jvm.Cond.code ({ cls := "BridgeAuctionModel", name := "greatest", desc := "(II)I" } : Jvm.MethodName) prog_11_method_43_code (5 : Nat) (Option.some Jvm.ClassFile.FieldType.int)) ∈ lw_all := lw_g (lw_at lw_m7 141 rfl) rfl
theorem q1658 : (Jvm.Cond.methodLink "BridgeAuctionModel" (136 : Nat) ({ cls := "BridgeAuctionModel", name := "counts", desc := "(II)Z" } : Jvm.MethodName)) ∈ lw_all := lw_g (lw_at lw_m7 142 rfl) rfl
theorem q1659 : (Jvm.Cond.privateMethod ({ cls := "BridgeAuctionModel", name := "counts", desc := "(II)Z" } : Jvm.MethodName)) ∈ lw_tbl := lw_at lw_m7 143 rfl
theorem q1660 : (Jvm.Cond.instanceMethod ({ cls := "BridgeAuctionModel", name := "counts", desc := "(II)Z" } : Jvm.MethodName)) ∈ lw_all := lw_g (lw_at lw_m7 144 rfl) rfl
theorem q1661 : (Jvm.Cond.code ({ cls := "BridgeAuctionModel", name := "counts", desc := "(II)Z" } : Jvm.MethodName) prog_11_method_42_code (4 : Nat) (Option.some Jvm.ClassFile.FieldType.boolean)) ∈ lw_all := lw_g (lw_at lw_m7 145 rfl) rfl
theorem q1662 : (Jvm.Cond.methodLink "BridgeAuctionModel" (130 : Nat) ({ cls := "BridgeAuctionModel", name := "vectors", desc := "()V" } : Jvm.MethodName)) ∈ lw_all := lw_g (lw_at lw_m7 146 rfl) rfl
theorem q1663 : (Jvm.Cond.privateMethod ({ cls := "BridgeAuctionModel", name := "vectors", desc := "()V" } : Jvm.MethodName)) ∈ lw_tbl := lw_at lw_m7 147 rfl
theorem q1664 : (Jvm.Cond.instanceMethod ({ cls := "BridgeAuctionModel", name := "vectors", desc := "()V" } : Jvm.MethodName)) ∈ lw_all := lw_g (lw_at lw_m7 148 rfl) rfl
theorem q1665 : (Jvm.Cond.code ({ cls := "BridgeAuctionModel", name := "vectors", desc := "()V" } : Jvm.MethodName) prog_11_method_47_code (3 : Nat) (Option.none : Option Jvm.ClassFile.FieldType)) ∈ lw_all := lw_g (lw_at lw_m7 149 rfl) rfl
theorem q1666 : (Jvm.Cond.methodLink "BridgeAuctionModel" (152 : Nat) ({ cls := "BridgeAuctionModel", name := "finds", desc := "(I)V" } : Jvm.MethodName)) ∈ lw_all := lw_g (lw_at lw_m7 150 rfl) rfl
theorem q1667 : (Jvm.Cond.privateMethod ({ cls := "BridgeAuctionModel", name := "finds", desc := "(I)V" } : Jvm.MethodName)) ∈ lw_tbl := lw_at lw_m7 151 rfl
theorem q1668 : (Jvm.Cond.instanceMethod ({ cls := "BridgeAuctionModel", name := "finds", desc := "(I)V" } : Jvm.MethodName)) ∈ lw_all := lw_g (lw_at lw_m7 152 rfl) rfl
theorem q1669 : (Jvm.Cond.code ({ cls := "BridgeAuctionModel", name := "finds", desc := "(I)V" } : Jvm.MethodName) prog_11_method_46_code (12 : Nat) (Option.none : Option Jvm.ClassFile.FieldType)) ∈ lw_all := lw_g (lw_at lw_m7 153 rfl) rfl
theorem q1670 : (Jvm.Cond.methodLink "BridgeAuctionModel" (146 : Nat) ({ cls := "BridgeAuctionModel", name := "other", desc := "(II)I" } : Jvm.MethodName)) ∈ lw_all := lw_g (lw_at lw_m7 154 rfl) rfl
theorem q1671 : (Jvm.Cond.privateMethod ({ cls := "BridgeAuctionModel", name := "other", desc := "(II)I" } : Jvm.MethodName)) ∈ lw_tbl := lw_at lw_m7 155 rfl
theorem q1672 : (Jvm.Cond.instanceMethod ({ cls := "BridgeAuctionModel", name := "other", desc := "(II)I" } : Jvm.MethodName)) ∈ lw_all := lw_g (lw_at lw_m7 156 rfl) rfl
theorem q1673 : (Jvm.Cond.code ({ cls := "BridgeAuctionModel", name := "other", desc := "(II)I" } : Jvm.MethodName) prog_11_method_18_code (3 : Nat) (Option.some Jvm.ClassFile.FieldType.int)) ∈ lw_all := lw_g (lw_at lw_m7 157 rfl) rfl
theorem q1674 : (Jvm.Cond.methodLink "BridgeAuctionModel" (149 : Nat) ({ cls := "BridgeAuctionModel", name := "isAt", desc := "(II)Z" } : Jvm.MethodName)) ∈ lw_all := lw_g (lw_at lw_m7 158 rfl) rfl
theorem q1675 : (Jvm.Cond.privateMethod ({ cls := "BridgeAuctionModel", name := "isAt", desc := "(II)Z" } : Jvm.MethodName)) ∈ lw_tbl := lw_at lw_m7 159 rfl
theorem q1676 : (Jvm.Cond.instanceMethod ({ cls := "BridgeAuctionModel", name := "isAt", desc := "(II)Z" } : Jvm.MethodName)) ∈ lw_all := lw_g (lw_at lw_m7 160 rfl) rfl
theorem q1677 : (Jvm.Cond.code ({ cls := "BridgeAuctionModel", name := "isAt", desc := "(II)Z" } : Jvm.MethodName) prog_11_method_19_code (3 : Nat) (Option.some Jvm.ClassFile.FieldType.boolean)) ∈ lw_all := lw_g (lw_at lw_m7 161 rfl) rfl
theorem q1678 : (Jvm.Cond.methodLink "BridgeAuctionModel" (133 : Nat) ({ cls := "BridgeAuctionModel", name := "ports", desc := "()V" } : Jvm.MethodName)) ∈ lw_all := lw_g (lw_at lw_m7 162 rfl) rfl
theorem q1679 : (Jvm.Cond.privateMethod ({ cls := "BridgeAuctionModel", name := "ports", desc := "()V" } : Jvm.MethodName)) ∈ lw_tbl := lw_at lw_m7 163 rfl
theorem q1680 : (Jvm.Cond.instanceMethod ({ cls := "BridgeAuctionModel", name := "ports", desc := "()V" } : Jvm.MethodName)) ∈ lw_all := lw_g (lw_at lw_m7 164 rfl) rfl
theorem q1681 : (Jvm.Cond.code ({ cls := "BridgeAuctionModel", name := "ports", desc := "()V" } : Jvm.MethodName) prog_11_method_51_code (4 : Nat) (Option.none : Option Jvm.ClassFile.FieldType)) ∈ lw_all := lw_g (lw_at lw_m7 165 rfl) rfl
theorem q1682 : (Jvm.Cond.methodLink "BridgeAuctionModel" (161 : Nat) ({ cls := "BridgeAuctionModel", name := "goesOn", desc := "(II)Z" } : Jvm.MethodName)) ∈ lw_all := lw_g (lw_at lw_m7 166 rfl) rfl
theorem q1683 : (Jvm.Cond.privateMethod ({ cls := "BridgeAuctionModel", name := "goesOn", desc := "(II)Z" } : Jvm.MethodName)) ∈ lw_tbl := lw_at lw_m7 167 rfl
theorem q1684 : (Jvm.Cond.instanceMethod ({ cls := "BridgeAuctionModel", name := "goesOn", desc := "(II)Z" } : Jvm.MethodName)) ∈ lw_all := lw_g (lw_at lw_m7 168 rfl) rfl
theorem q1685 : (Jvm.Cond.code ({ cls := "BridgeAuctionModel", name := "goesOn", desc := "(II)Z" } : Jvm.MethodName) prog_11_method_50_code (5 : Nat) (Option.some Jvm.ClassFile.FieldType.boolean)) ∈ lw_all := lw_g (lw_at lw_m7 169 rfl) rfl
theorem q1686 : (Jvm.Cond.methodLink "BridgeAuctionModel" (158 : Nat) ({ cls := "BridgeAuctionModel", name := "roleOf", desc := "(II)I" } : Jvm.MethodName)) ∈ lw_all := lw_g (lw_at lw_m7 170 rfl) rfl
theorem q1687 : (Jvm.Cond.privateMethod ({ cls := "BridgeAuctionModel", name := "roleOf", desc := "(II)I" } : Jvm.MethodName)) ∈ lw_tbl := lw_at lw_m7 171 rfl
theorem q1688 : (Jvm.Cond.instanceMethod ({ cls := "BridgeAuctionModel", name := "roleOf", desc := "(II)I" } : Jvm.MethodName)) ∈ lw_all := lw_g (lw_at lw_m7 172 rfl) rfl
theorem q1689 : (Jvm.Cond.code ({ cls := "BridgeAuctionModel", name := "roleOf", desc := "(II)I" } : Jvm.MethodName) prog_11_method_49_code (3 : Nat) (Option.some Jvm.ClassFile.FieldType.int)) ∈ lw_all := lw_g (lw_at lw_m7 173 rfl) rfl
theorem q1690 : (Jvm.Cond.methodLink "BridgeAuctionModel" (155 : Nat) ({ cls := "BridgeAuctionModel", name := "isAhead", desc := "(II)Z" } : Jvm.MethodName)) ∈ lw_all := lw_g (lw_at lw_m7 174 rfl) rfl
theorem q1691 : (Jvm.Cond.privateMethod ({ cls := "BridgeAuctionModel", name := "isAhead", desc := "(II)Z" } : Jvm.MethodName)) ∈ lw_tbl := lw_at lw_m7 175 rfl
theorem q1692 : (Jvm.Cond.instanceMethod ({ cls := "BridgeAuctionModel", name := "isAhead", desc := "(II)Z" } : Jvm.MethodName)) ∈ lw_all := lw_g (lw_at lw_m7 176 rfl) rfl
theorem q1693 : (Jvm.Cond.code ({ cls := "BridgeAuctionModel", name := "isAhead", desc := "(II)Z" } : Jvm.MethodName) prog_11_method_48_code (5 : Nat) (Option.some Jvm.ClassFile.FieldType.boolean)) ∈ lw_all := lw_g (lw_at lw_m7 177 rfl) rfl
theorem q1694 : (Jvm.Cond.methodLink "BridgeAuctionModel" (164 : Nat) ({ cls := "BridgeAuctionModel", name := "reached", desc := "(I)I" } : Jvm.MethodName)) ∈ lw_all := lw_g (lw_at lw_m7 178 rfl) rfl
theorem q1695 : (Jvm.Cond.privateMethod ({ cls := "BridgeAuctionModel", name := "reached", desc := "(I)I" } : Jvm.MethodName)) ∈ lw_tbl := lw_at lw_m7 179 rfl
theorem q1696 : (Jvm.Cond.instanceMethod ({ cls := "BridgeAuctionModel", name := "reached", desc := "(I)I" } : Jvm.MethodName)) ∈ lw_all := lw_g (lw_at lw_m7 180 rfl) rfl
theorem q1697 : (Jvm.Cond.code ({ cls := "BridgeAuctionModel", name := "reached", desc := "(I)I" } : Jvm.MethodName) prog_11_method_21_code (5 : Nat) (Option.some Jvm.ClassFile.FieldType.int)) ∈ lw_all := lw_g (lw_at lw_m7 181 rfl) rfl
theorem q1698 : (Jvm.Cond.methodLink "BridgeAuctionModel" (66 : Nat) ({ cls := "BridgeAuctionModel", name := "carries", desc := "(I)Z" } : Jvm.MethodName)) ∈ lw_all := lw_g (lw_at lw_m7 182 rfl) rfl
theorem q1699 : (Jvm.Cond.privateMethod ({ cls := "BridgeAuctionModel", name := "carries", desc := "(I)Z" } : Jvm.MethodName)) ∈ lw_tbl := lw_at lw_m7 183 rfl
theorem q1700 : (Jvm.Cond.instanceMethod ({ cls := "BridgeAuctionModel", name := "carries", desc := "(I)Z" } : Jvm.MethodName)) ∈ lw_all := lw_g (lw_at lw_m7 184 rfl) rfl
theorem q1701 : (Jvm.Cond.code ({ cls := "BridgeAuctionModel", name := "carries", desc := "(I)Z" } : Jvm.MethodName) prog_11_method_20_code (2 : Nat) (Option.some Jvm.ClassFile.FieldType.boolean)) ∈ lw_all := lw_g (lw_at lw_m7 185 rfl) rfl
theorem q1703 : (Jvm.Cond.instanceMethod ({ cls := "BridgeAuctionModel", name := "time", desc := "()I" } : Jvm.MethodName)) ∈ lw_all := lw_g (lw_at lw_m7 187 rfl) rfl
theorem q1704 : (Jvm.Cond.selects "BridgeAuctionModel" ({ cls := "BridgeAuctionModel", name := "time", desc := "()I" } : Jvm.MethodName) ({ cls := "BridgeAuctionModel", name := "time", desc := "()I" } : Jvm.MethodName)) ∈ lw_all := lw_g (lw_at lw_m7 188 rfl) rfl
theorem q1705 : (Jvm.Cond.code ({ cls := "BridgeAuctionModel", name := "time", desc := "()I" } : Jvm.MethodName) prog_11_method_40_code (1 : Nat) (Option.some Jvm.ClassFile.FieldType.int)) ∈ lw_all := lw_g (lw_at lw_m7 189 rfl) rfl
theorem q1707 : (Jvm.Cond.instanceMethod ({ cls := "BridgeAuctionModel", name := "send", desc := "(II)I" } : Jvm.MethodName)) ∈ lw_all := lw_g (lw_at lw_m7 191 rfl) rfl
theorem q1708 : (Jvm.Cond.selects "BridgeAuctionModel" ({ cls := "BridgeAuctionModel", name := "send", desc := "(II)I" } : Jvm.MethodName) ({ cls := "BridgeAuctionModel", name := "send", desc := "(II)I" } : Jvm.MethodName)) ∈ lw_all := lw_g (lw_at lw_m7 192 rfl) rfl
theorem q1709 : (Jvm.Cond.code ({ cls := "BridgeAuctionModel", name := "send", desc := "(II)I" } : Jvm.MethodName) prog_11_method_54_code (14 : Nat) (Option.some Jvm.ClassFile.FieldType.int)) ∈ lw_all := lw_g (lw_at lw_m7 193 rfl) rfl
theorem q1710 : (Jvm.Cond.methodLink "BridgeAuctionModel" (167 : Nat) ({ cls := "BridgeAuctionModel", name := "learns", desc := "(III)V" } : Jvm.MethodName)) ∈ lw_all := lw_g (lw_at lw_m7 194 rfl) rfl
theorem q1711 : (Jvm.Cond.privateMethod ({ cls := "BridgeAuctionModel", name := "learns", desc := "(III)V" } : Jvm.MethodName)) ∈ lw_tbl := lw_at lw_m7 195 rfl
theorem q1712 : (Jvm.Cond.instanceMethod ({ cls := "BridgeAuctionModel", name := "learns", desc := "(III)V" } : Jvm.MethodName)) ∈ lw_all := lw_g (lw_at lw_m7 196 rfl) rfl
theorem q1713 : (Jvm.Cond.code ({ cls := "BridgeAuctionModel", name := "learns", desc := "(III)V" } : Jvm.MethodName) prog_11_method_52_code (4 : Nat) (Option.none : Option Jvm.ClassFile.FieldType)) ∈ lw_all := lw_g (lw_at lw_m7 197 rfl) rfl
theorem q1714 : (Jvm.Cond.methodLink "BridgeAuctionModel" (170 : Nat) ({ cls := "BridgeAuctionModel", name := "entryOf", desc := "(II)I" } : Jvm.MethodName)) ∈ lw_all := lw_g (lw_at lw_m7 198 rfl) rfl
theorem q1715 : (Jvm.Cond.privateMethod ({ cls := "BridgeAuctionModel", name := "entryOf", desc := "(II)I" } : Jvm.MethodName)) ∈ lw_tbl := lw_at lw_m7 199 rfl
theorem q1716 : (Jvm.Cond.instanceMethod ({ cls := "BridgeAuctionModel", name := "entryOf", desc := "(II)I" } : Jvm.MethodName)) ∈ lw_all := lw_g (lw_at lw_m7 200 rfl) rfl
theorem q1717 : (Jvm.Cond.code ({ cls := "BridgeAuctionModel", name := "entryOf", desc := "(II)I" } : Jvm.MethodName) prog_11_method_53_code (4 : Nat) (Option.some Jvm.ClassFile.FieldType.int)) ∈ lw_all := lw_g (lw_at lw_m7 201 rfl) rfl
theorem q1719 : (Jvm.Cond.instanceMethod ({ cls := "BridgeAuctionModel", name := "bridge", desc := "(II)I" } : Jvm.MethodName)) ∈ lw_all := lw_g (lw_at lw_m7 203 rfl) rfl
theorem q1720 : (Jvm.Cond.selects "BridgeAuctionModel" ({ cls := "BridgeAuctionModel", name := "bridge", desc := "(II)I" } : Jvm.MethodName) ({ cls := "BridgeAuctionModel", name := "bridge", desc := "(II)I" } : Jvm.MethodName)) ∈ lw_all := lw_g (lw_at lw_m7 204 rfl) rfl
theorem q1721 : (Jvm.Cond.code ({ cls := "BridgeAuctionModel", name := "bridge", desc := "(II)I" } : Jvm.MethodName) prog_11_method_57_code (3 : Nat) (Option.some Jvm.ClassFile.FieldType.int)) ∈ lw_all := lw_g (lw_at lw_m7 205 rfl) rfl
theorem q1722 : (Jvm.Cond.methodLink "BridgeAuctionModel" (176 : Nat) ({ cls := "BridgeAuctionModel", name := "bridgeValue", desc := "(II)I" } : Jvm.MethodName)) ∈ lw_all := lw_g (lw_at lw_m7 206 rfl) rfl
theorem q1723 : (Jvm.Cond.privateMethod ({ cls := "BridgeAuctionModel", name := "bridgeValue", desc := "(II)I" } : Jvm.MethodName)) ∈ lw_tbl := lw_at lw_m7 207 rfl
theorem q1724 : (Jvm.Cond.instanceMethod ({ cls := "BridgeAuctionModel", name := "bridgeValue", desc := "(II)I" } : Jvm.MethodName)) ∈ lw_all := lw_g (lw_at lw_m7 208 rfl) rfl
theorem q1725 : (Jvm.Cond.code ({ cls := "BridgeAuctionModel", name := "bridgeValue", desc := "(II)I" } : Jvm.MethodName) prog_11_method_56_code (3 : Nat) (Option.some Jvm.ClassFile.FieldType.int)) ∈ lw_all := lw_g (lw_at lw_m7 209 rfl) rfl
theorem q1726 : (Jvm.Cond.methodLink "BridgeAuctionModel" (173 : Nat) ({ cls := "BridgeAuctionModel", name := "entries", desc := "(I)I" } : Jvm.MethodName)) ∈ lw_all := lw_g (lw_at lw_m7 210 rfl) rfl
theorem q1727 : (Jvm.Cond.privateMethod ({ cls := "BridgeAuctionModel", name := "entries", desc := "(I)I" } : Jvm.MethodName)) ∈ lw_tbl := lw_at lw_m7 211 rfl
theorem q1728 : (Jvm.Cond.instanceMethod ({ cls := "BridgeAuctionModel", name := "entries", desc := "(I)I" } : Jvm.MethodName)) ∈ lw_all := lw_g (lw_at lw_m7 212 rfl) rfl
theorem q1729 : (Jvm.Cond.code ({ cls := "BridgeAuctionModel", name := "entries", desc := "(I)I" } : Jvm.MethodName) prog_11_method_55_code (4 : Nat) (Option.some Jvm.ClassFile.FieldType.int)) ∈ lw_all := lw_g (lw_at lw_m7 213 rfl) rfl
theorem q1731 : (Jvm.Cond.instanceMethod ({ cls := "BridgeAuctionModel", name := "links", desc := "()I" } : Jvm.MethodName)) ∈ lw_all := lw_g (lw_at lw_m7 215 rfl) rfl
theorem q1732 : (Jvm.Cond.selects "BridgeAuctionModel" ({ cls := "BridgeAuctionModel", name := "links", desc := "()I" } : Jvm.MethodName) ({ cls := "BridgeAuctionModel", name := "links", desc := "()I" } : Jvm.MethodName)) ∈ lw_all := lw_g (lw_at lw_m7 216 rfl) rfl
theorem q1733 : (Jvm.Cond.code ({ cls := "BridgeAuctionModel", name := "links", desc := "()I" } : Jvm.MethodName) prog_11_method_58_code (1 : Nat) (Option.some Jvm.ClassFile.FieldType.int)) ∈ lw_all := lw_g (lw_at lw_m7 217 rfl) rfl
theorem q1735 : (Jvm.Cond.instanceMethod ({ cls := "BridgeAuctionModel", name := "link", desc := "(II)I" } : Jvm.MethodName)) ∈ lw_all := lw_g (lw_at lw_m7 219 rfl) rfl
theorem q1736 : (Jvm.Cond.selects "BridgeAuctionModel" ({ cls := "BridgeAuctionModel", name := "link", desc := "(II)I" } : Jvm.MethodName) ({ cls := "BridgeAuctionModel", name := "link", desc := "(II)I" } : Jvm.MethodName)) ∈ lw_all := lw_g (lw_at lw_m7 220 rfl) rfl
theorem q1737 : (Jvm.Cond.code ({ cls := "BridgeAuctionModel", name := "link", desc := "(II)I" } : Jvm.MethodName) prog_11_method_60_code (3 : Nat) (Option.some Jvm.ClassFile.FieldType.int)) ∈ lw_all := lw_g (lw_at lw_m7 221 rfl) rfl
theorem q1738 : (Jvm.Cond.methodLink "BridgeAuctionModel" (179 : Nat) ({ cls := "BridgeAuctionModel", name := "linkValue", desc := "(II)I" } : Jvm.MethodName)) ∈ lw_all := lw_g (lw_at lw_m7 222 rfl) rfl
theorem q1739 : (Jvm.Cond.privateMethod ({ cls := "BridgeAuctionModel", name := "linkValue", desc := "(II)I" } : Jvm.MethodName)) ∈ lw_tbl := lw_at lw_m7 223 rfl
theorem q1740 : (Jvm.Cond.instanceMethod ({ cls := "BridgeAuctionModel", name := "linkValue", desc := "(II)I" } : Jvm.MethodName)) ∈ lw_all := lw_g (lw_at lw_m7 224 rfl) rfl
theorem q1741 : (Jvm.Cond.code ({ cls := "BridgeAuctionModel", name := "linkValue", desc := "(II)I" } : Jvm.MethodName) prog_11_method_59_code (3 : Nat) (Option.some Jvm.ClassFile.FieldType.int)) ∈ lw_all := lw_g (lw_at lw_m7 225 rfl) rfl
theorem q1743 : (Jvm.Cond.instanceMethod ({ cls := "BridgeAuctionModel", name := "port", desc := "(IZI)I" } : Jvm.MethodName)) ∈ lw_all := lw_g (lw_at lw_m7 227 rfl) rfl
theorem q1744 : (Jvm.Cond.selects "BridgeAuctionModel" ({ cls := "BridgeAuctionModel", name := "port", desc := "(IZI)I" } : Jvm.MethodName) ({ cls := "BridgeAuctionModel", name := "port", desc := "(IZI)I" } : Jvm.MethodName)) ∈ lw_all := lw_g (lw_at lw_m7 228 rfl) rfl
theorem q1745 : (Jvm.Cond.code ({ cls := "BridgeAuctionModel", name := "port", desc := "(IZI)I" } : Jvm.MethodName) prog_11_method_61_code (4 : Nat) (Option.some Jvm.ClassFile.FieldType.int)) ∈ lw_all := lw_g (lw_at lw_m7 229 rfl) rfl
theorem q1747 : (Jvm.Cond.instanceMethod ({ cls := "BridgeAuctionModel", name := "entry", desc := "(II)I" } : Jvm.MethodName)) ∈ lw_all := lw_g (lw_at lw_m7 231 rfl) rfl
theorem q1748 : (Jvm.Cond.selects "BridgeAuctionModel" ({ cls := "BridgeAuctionModel", name := "entry", desc := "(II)I" } : Jvm.MethodName) ({ cls := "BridgeAuctionModel", name := "entry", desc := "(II)I" } : Jvm.MethodName)) ∈ lw_all := lw_g (lw_at lw_m7 232 rfl) rfl
theorem q1749 : (Jvm.Cond.code ({ cls := "BridgeAuctionModel", name := "entry", desc := "(II)I" } : Jvm.MethodName) prog_11_method_62_code (3 : Nat) (Option.some Jvm.ClassFile.FieldType.int)) ∈ lw_all := lw_g (lw_at lw_m7 233 rfl) rfl
theorem q1751 : (Jvm.Cond.instanceMethod ({ cls := "BridgeAuctionModel", name := "tenant", desc := "(II)I" } : Jvm.MethodName)) ∈ lw_all := lw_g (lw_at lw_m7 235 rfl) rfl
theorem q1752 : (Jvm.Cond.selects "BridgeAuctionModel" ({ cls := "BridgeAuctionModel", name := "tenant", desc := "(II)I" } : Jvm.MethodName) ({ cls := "BridgeAuctionModel", name := "tenant", desc := "(II)I" } : Jvm.MethodName)) ∈ lw_all := lw_g (lw_at lw_m7 236 rfl) rfl
theorem q1753 : (Jvm.Cond.code ({ cls := "BridgeAuctionModel", name := "tenant", desc := "(II)I" } : Jvm.MethodName) prog_11_method_65_code (3 : Nat) (Option.some Jvm.ClassFile.FieldType.int)) ∈ lw_all := lw_g (lw_at lw_m7 237 rfl) rfl
theorem q1754 : (Jvm.Cond.methodLink "BridgeAuctionModel" (185 : Nat) ({ cls := "BridgeAuctionModel", name := "tenantValue", desc := "(II)I" } : Jvm.MethodName)) ∈ lw_all := lw_g (lw_at lw_m7 238 rfl) rfl
theorem q1755 : (Jvm.Cond.privateMethod ({ cls := "BridgeAuctionModel", name := "tenantValue", desc := "(II)I" } : Jvm.MethodName)) ∈ lw_tbl := lw_at lw_m7 239 rfl
theorem q1756 : (Jvm.Cond.instanceMethod ({ cls := "BridgeAuctionModel", name := "tenantValue", desc := "(II)I" } : Jvm.MethodName)) ∈ lw_all := lw_g (lw_at lw_m8 0 rfl) rfl
theorem q1757 : (Jvm.Cond.code ({ cls := "BridgeAuctionModel", name := "tenantValue", desc := "(II)I" } : Jvm.MethodName) prog_11_method_64_code (3 : Nat) (Option.some Jvm.ClassFile.FieldType.int)) ∈ lw_all := lw_g (lw_at lw_m8 1 rfl) rfl
theorem q1758 : (Jvm.Cond.methodLink "BridgeAuctionModel" (182 : Nat) ({ cls := "BridgeAuctionModel", name := "won", desc := "(I)I" } : Jvm.MethodName)) ∈ lw_all := lw_g (lw_at lw_m8 2 rfl) rfl
theorem q1759 : (Jvm.Cond.privateMethod ({ cls := "BridgeAuctionModel", name := "won", desc := "(I)I" } : Jvm.MethodName)) ∈ lw_tbl := lw_at lw_m8 3 rfl
theorem q1760 : (Jvm.Cond.instanceMethod ({ cls := "BridgeAuctionModel", name := "won", desc := "(I)I" } : Jvm.MethodName)) ∈ lw_all := lw_g (lw_at lw_m8 4 rfl) rfl
theorem q1761 : (Jvm.Cond.code ({ cls := "BridgeAuctionModel", name := "won", desc := "(I)I" } : Jvm.MethodName) prog_11_method_63_code (4 : Nat) (Option.some Jvm.ClassFile.FieldType.int)) ∈ lw_all := lw_g (lw_at lw_m8 5 rfl) rfl
theorem q1763 : (Jvm.Cond.instanceMethod ({ cls := "BridgeAuctionModel", name := "bidOf", desc := "(II)I" } : Jvm.MethodName)) ∈ lw_all := lw_g (lw_at lw_m8 7 rfl) rfl
theorem q1764 : (Jvm.Cond.selects "BridgeAuctionModel" ({ cls := "BridgeAuctionModel", name := "bidOf", desc := "(II)I" } : Jvm.MethodName) ({ cls := "BridgeAuctionModel", name := "bidOf", desc := "(II)I" } : Jvm.MethodName)) ∈ lw_all := lw_g (lw_at lw_m8 8 rfl) rfl
theorem q1765 : (Jvm.Cond.code ({ cls := "BridgeAuctionModel", name := "bidOf", desc := "(II)I" } : Jvm.MethodName) prog_11_method_66_code (3 : Nat) (Option.some Jvm.ClassFile.FieldType.int)) ∈ lw_all := lw_g (lw_at lw_m8 9 rfl) rfl
theorem q1767 : (Jvm.Cond.instanceMethod ({ cls := "BridgeAuctionModel", name := "count", desc := "(I)I" } : Jvm.MethodName)) ∈ lw_all := lw_g (lw_at lw_m8 11 rfl) rfl
theorem q1768 : (Jvm.Cond.selects "BridgeAuctionModel" ({ cls := "BridgeAuctionModel", name := "count", desc := "(I)I" } : Jvm.MethodName) ({ cls := "BridgeAuctionModel", name := "count", desc := "(I)I" } : Jvm.MethodName)) ∈ lw_all := lw_g (lw_at lw_m8 12 rfl) rfl
theorem q1769 : (Jvm.Cond.code ({ cls := "BridgeAuctionModel", name := "count", desc := "(I)I" } : Jvm.MethodName) prog_11_method_70_code (2 : Nat) (Option.some Jvm.ClassFile.FieldType.int)) ∈ lw_all := lw_g (lw_at lw_m8 13 rfl) rfl
theorem q1770 : (Jvm.Cond.methodLink "BridgeAuctionModel" (195 : Nat) ({ cls := "BridgeAuctionModel", name := "counted", desc := "(I)I" } : Jvm.MethodName)) ∈ lw_all := lw_g (lw_at lw_m8 14 rfl) rfl
theorem q1771 : (Jvm.Cond.privateMethod ({ cls := "BridgeAuctionModel", name := "counted", desc := "(I)I" } : Jvm.MethodName)) ∈ lw_tbl := lw_at lw_m8 15 rfl
theorem q1772 : (Jvm.Cond.instanceMethod ({ cls := "BridgeAuctionModel", name := "counted", desc := "(I)I" } : Jvm.MethodName)) ∈ lw_all := lw_g (lw_at lw_m8 16 rfl) rfl
theorem q1773 : (Jvm.Cond.code ({ cls := "BridgeAuctionModel", name := "counted", desc := "(I)I" } : Jvm.MethodName) prog_11_method_69_code (2 : Nat) (Option.some Jvm.ClassFile.FieldType.int)) ∈ lw_all := lw_g (lw_at lw_m8 17 rfl) rfl
theorem q1774 : (Jvm.Cond.methodLink "BridgeAuctionModel" (188 : Nat) ({ cls := "BridgeAuctionModel", name := "carrying", desc := "()I" } : Jvm.MethodName)) ∈ lw_all := lw_g (lw_at lw_m8 18 rfl) rfl
theorem q1775 : (Jvm.Cond.privateMethod ({ cls := "BridgeAuctionModel", name := "carrying", desc := "()I" } : Jvm.MethodName)) ∈ lw_tbl := lw_at lw_m8 19 rfl
theorem q1776 : (Jvm.Cond.instanceMethod ({ cls := "BridgeAuctionModel", name := "carrying", desc := "()I" } : Jvm.MethodName)) ∈ lw_all := lw_g (lw_at lw_m8 20 rfl) rfl
theorem q1777 : (Jvm.Cond.code ({ cls := "BridgeAuctionModel", name := "carrying", desc := "()I" } : Jvm.MethodName) prog_11_method_67_code (3 : Nat) (Option.some Jvm.ClassFile.FieldType.int)) ∈ lw_all := lw_g (lw_at lw_m8 21 rfl) rfl
theorem q1778 : (Jvm.Cond.methodLink "BridgeAuctionModel" (192 : Nat) ({ cls := "BridgeAuctionModel", name := "pairs", desc := "()I" } : Jvm.MethodName)) ∈ lw_all := lw_g (lw_at lw_m8 22 rfl) rfl
theorem q1779 : (Jvm.Cond.privateMethod ({ cls := "BridgeAuctionModel", name := "pairs", desc := "()I" } : Jvm.MethodName)) ∈ lw_tbl := lw_at lw_m8 23 rfl
theorem q1780 : (Jvm.Cond.instanceMethod ({ cls := "BridgeAuctionModel", name := "pairs", desc := "()I" } : Jvm.MethodName)) ∈ lw_all := lw_g (lw_at lw_m8 24 rfl) rfl
theorem q1781 : (Jvm.Cond.code ({ cls := "BridgeAuctionModel", name := "pairs", desc := "()I" } : Jvm.MethodName) prog_11_method_68_code (5 : Nat) (Option.some Jvm.ClassFile.FieldType.int)) ∈ lw_all := lw_g (lw_at lw_m8 25 rfl) rfl
theorem q1783 : (Jvm.Cond.instanceMethod ({ cls := "BridgeAuctionModel", name := "isForest", desc := "()Z" } : Jvm.MethodName)) ∈ lw_all := lw_g (lw_at lw_m8 27 rfl) rfl
theorem q1784 : (Jvm.Cond.selects "BridgeAuctionModel" ({ cls := "BridgeAuctionModel", name := "isForest", desc := "()Z" } : Jvm.MethodName) ({ cls := "BridgeAuctionModel", name := "isForest", desc := "()Z" } : Jvm.MethodName)) ∈ lw_all := lw_g (lw_at lw_m8 28 rfl) rfl
theorem q1785 : (Jvm.Cond.code ({ cls := "BridgeAuctionModel", name := "isForest", desc := "()Z" } : Jvm.MethodName) prog_11_method_72_code (1 : Nat) (Option.some Jvm.ClassFile.FieldType.boolean)) ∈ lw_all := lw_g (lw_at lw_m8 29 rfl) rfl
theorem q1786 : (Jvm.Cond.methodLink "BridgeAuctionModel" (198 : Nat) ({ cls := "BridgeAuctionModel", name := "isWithoutCycle", desc := "()Z" } : Jvm.MethodName)) ∈ lw_all := lw_g (lw_at lw_m8 30 rfl) rfl
theorem q1787 : (Jvm.Cond.privateMethod ({ cls := "BridgeAuctionModel", name := "isWithoutCycle", desc := "()Z" } : Jvm.MethodName)) ∈ lw_tbl := lw_at lw_m8 31 rfl
theorem q1788 : (Jvm.Cond.instanceMethod ({ cls := "BridgeAuctionModel", name := "isWithoutCycle", desc := "()Z" } : Jvm.MethodName)) ∈ lw_all := lw_g (lw_at lw_m8 32 rfl) rfl
theorem q1789 : (Jvm.Cond.code ({ cls := "BridgeAuctionModel", name := "isWithoutCycle", desc := "()Z" } : Jvm.MethodName) prog_11_method_71_code (3 : Nat) (Option.some Jvm.ClassFile.FieldType.boolean)) ∈ lw_all := lw_g (lw_at lw_m8 33 rfl) rfl
theorem q1791 : (Jvm.Cond.instanceMethod ({ cls := "BridgeAuctionModel", name := "type", desc := "(I)I" } : Jvm.MethodName)) ∈ lw_all := lw_g (lw_at lw_m8 35 rfl) rfl
theorem q1792 : (Jvm.Cond.selects "BridgeAuctionModel" ({ cls := "BridgeAuctionModel", name := "type", desc := "(I)I" } : Jvm.MethodName) ({ cls := "BridgeAuctionModel", name := "type", desc := "(I)I" } : Jvm.MethodName)) ∈ lw_all := lw_g (lw_at lw_m8 36 rfl) rfl
theorem q1793 : (Jvm.Cond.code ({ cls := "BridgeAuctionModel", name := "type", desc := "(I)I" } : Jvm.MethodName) prog_11_method_73_code (2 : Nat) (Option.some Jvm.ClassFile.FieldType.int)) ∈ lw_all := lw_g (lw_at lw_m8 37 rfl) rfl
theorem q1795 : (Jvm.Cond.instanceMethod ({ cls := "BridgeAuctionModel", name := "clearScript", desc := "()I" } : Jvm.MethodName)) ∈ lw_all := lw_g (lw_at lw_m8 39 rfl) rfl
theorem q1796 : (Jvm.Cond.selects "BridgeAuctionModel" ({ cls := "BridgeAuctionModel", name := "clearScript", desc := "()I" } : Jvm.MethodName) ({ cls := "BridgeAuctionModel", name := "clearScript", desc := "()I" } : Jvm.MethodName)) ∈ lw_all := lw_g (lw_at lw_m8 40 rfl) rfl
theorem q1797 : (Jvm.Cond.code ({ cls := "BridgeAuctionModel", name := "clearScript", desc := "()I" } : Jvm.MethodName) prog_11_method_74_code (2 : Nat) (Option.some Jvm.ClassFile.FieldType.int)) ∈ lw_all := lw_g (lw_at lw_m8 41 rfl) rfl
theorem q1799 : (Jvm.Cond.instanceMethod ({ cls := "BridgeAuctionModel", name := "run", desc := "()I" } : Jvm.MethodName)) ∈ lw_all := lw_g (lw_at lw_m8 43 rfl) rfl
theorem q1800 : (Jvm.Cond.selects "BridgeAuctionModel" ({ cls := "BridgeAuctionModel", name := "run", desc := "()I" } : Jvm.MethodName) ({ cls := "BridgeAuctionModel", name := "run", desc := "()I" } : Jvm.MethodName)) ∈ lw_all := lw_g (lw_at lw_m8 44 rfl) rfl
theorem q1801 : (Jvm.Cond.code ({ cls := "BridgeAuctionModel", name := "run", desc := "()I" } : Jvm.MethodName) prog_11_method_82_code (3 : Nat) (Option.some Jvm.ClassFile.FieldType.int)) ∈ lw_all := lw_g (lw_at lw_m8 45 rfl) rfl
theorem q1802 : (Jvm.Cond.methodLink "BridgeAuctionModel" (227 : Nat) ({ cls := "BridgeAuctionModel", name := "skips", desc := "()V" } : Jvm.MethodName)) ∈ lw_all := lw_g (lw_at lw_m8 46 rfl) rfl
theorem q1803 : (Jvm.Cond.privateMethod ({ cls := "BridgeAuctionModel", name := "skips", desc := "()V" } : Jvm.MethodName)) ∈ lw_tbl := lw_at lw_m8 47 rfl
theorem q1804 : (Jvm.Cond.instanceMethod ({ cls := "BridgeAuctionModel", name := "skips", desc := "()V" } : Jvm.MethodName)) ∈ lw_all := lw_g (lw_at lw_m8 48 rfl) rfl
theorem q1805 : (Jvm.Cond.code ({ cls := "BridgeAuctionModel", name := "skips", desc := "()V" } : Jvm.MethodName) prog_11_method_76_code (1 : Nat) (Option.none : Option Jvm.ClassFile.FieldType)) ∈ lw_all := lw_g (lw_at lw_m8 49 rfl) rfl
theorem q1806 : (Jvm.Cond.methodLink "BridgeAuctionModel" (208 : Nat) ({ cls := "BridgeAuctionModel", name := "isIn", desc := "(II)Z" } : Jvm.MethodName)) ∈ lw_all := lw_g (lw_at lw_m8 50 rfl) rfl
theorem q1807 : (Jvm.Cond.privateMethod ({ cls := "BridgeAuctionModel", name := "isIn", desc := "(II)Z" } : Jvm.MethodName)) ∈ lw_tbl := lw_at lw_m8 51 rfl
theorem q1808 : (Jvm.Cond.instanceMethod ({ cls := "BridgeAuctionModel", name := "isIn", desc := "(II)Z" } : Jvm.MethodName)) ∈ lw_all := lw_g (lw_at lw_m8 52 rfl) rfl
theorem q1809 : (Jvm.Cond.code ({ cls := "BridgeAuctionModel", name := "isIn", desc := "(II)Z" } : Jvm.MethodName) prog_11_method_75_code (3 : Nat) (Option.some Jvm.ClassFile.FieldType.boolean)) ∈ lw_all := lw_g (lw_at lw_m8 53 rfl) rfl
theorem q1810 : (Jvm.Cond.methodLink "BridgeAuctionModel" (233 : Nat) ({ cls := "BridgeAuctionModel", name := "isCommand", desc := "()Z" } : Jvm.MethodName)) ∈ lw_all := lw_g (lw_at lw_m8 54 rfl) rfl
theorem q1811 : (Jvm.Cond.privateMethod ({ cls := "BridgeAuctionModel", name := "isCommand", desc := "()Z" } : Jvm.MethodName)) ∈ lw_tbl := lw_at lw_m8 55 rfl
theorem q1812 : (Jvm.Cond.instanceMethod ({ cls := "BridgeAuctionModel", name := "isCommand", desc := "()Z" } : Jvm.MethodName)) ∈ lw_all := lw_g (lw_at lw_m8 56 rfl) rfl
theorem q1813 : (Jvm.Cond.code ({ cls := "BridgeAuctionModel", name := "isCommand", desc := "()Z" } : Jvm.MethodName) prog_11_method_80_code (5 : Nat) (Option.some Jvm.ClassFile.FieldType.boolean)) ∈ lw_all := lw_g (lw_at lw_m8 57 rfl) rfl
theorem q1814 : (Jvm.Cond.methodLink "BridgeAuctionModel" (218 : Nat) ({ cls := "BridgeAuctionModel", name := "wordOf", desc := "(II)I" } : Jvm.MethodName)) ∈ lw_all := lw_g (lw_at lw_m8 58 rfl) rfl
theorem q1815 : (Jvm.Cond.static ({ cls := "BridgeAuctionModel", name := "wordOf", desc := "(II)I" } : Jvm.MethodName)) ∈ lw_all := lw_g (lw_at lw_m8 59 rfl) rfl
theorem q1816 : (Jvm.Cond.code ({ cls := "BridgeAuctionModel", name := "wordOf", desc := "(II)I" } : Jvm.MethodName) prog_11_method_77_code (2 : Nat) (Option.some Jvm.ClassFile.FieldType.int)) ∈ lw_all := lw_g (lw_at lw_m8 60 rfl) rfl
theorem q1817 : (Jvm.Cond.constant "BridgeAuctionModel" (211 : Nat) (6449508 : Int32)) ∈ lw_all := lw_g (lw_at lw_m8 61 rfl) rfl
theorem q1818 : (Jvm.Cond.constant "BridgeAuctionModel" (212 : Nat) (6711672 : Int32)) ∈ lw_all := lw_g (lw_at lw_m8 62 rfl) rfl
theorem q1819 : (Jvm.Cond.constant "BridgeAuctionModel" (213 : Nat) (1818848875 : Int32)) ∈ lw_all := lw_g (lw_at lw_m8 63 rfl) rfl
theorem q1820 : (Jvm.Cond.constant "BridgeAuctionModel" (214 : Nat) (1717660012 : Int32)) ∈ lw_all := lw_g (lw_at lw_m8 64 rfl) rfl
theorem q1821 : (Jvm.Cond.constant "BridgeAuctionModel" (215 : Nat) (1886546287 : Int32)) ∈ lw_all := lw_g (lw_at lw_m8 65 rfl) rfl
theorem q1822 : (Jvm.Cond.constant "BridgeAuctionModel" (216 : Nat) (1752134516 : Int32)) ∈ lw_all := lw_g (lw_at lw_m8 66 rfl) rfl
theorem q1823 : (Jvm.Cond.constant "BridgeAuctionModel" (217 : Nat) (1953063787 : Int32)) ∈ lw_all := lw_g (lw_at lw_m8 67 rfl) rfl
theorem q1824 : (Jvm.Cond.methodLink "BridgeAuctionModel" (224 : Nat) ({ cls := "BridgeAuctionModel", name := "numbersOf", desc := "(I)I" } : Jvm.MethodName)) ∈ lw_all := lw_g (lw_at lw_m8 68 rfl) rfl
theorem q1825 : (Jvm.Cond.static ({ cls := "BridgeAuctionModel", name := "numbersOf", desc := "(I)I" } : Jvm.MethodName)) ∈ lw_all := lw_g (lw_at lw_m8 69 rfl) rfl
theorem q1826 : (Jvm.Cond.code ({ cls := "BridgeAuctionModel", name := "numbersOf", desc := "(I)I" } : Jvm.MethodName) prog_11_method_78_code (1 : Nat) (Option.some Jvm.ClassFile.FieldType.int)) ∈ lw_all := lw_g (lw_at lw_m8 70 rfl) rfl
theorem q1827 : (Jvm.Cond.methodLink "BridgeAuctionModel" (230 : Nat) ({ cls := "BridgeAuctionModel", name := "isNumber", desc := "(I)Z" } : Jvm.MethodName)) ∈ lw_all := lw_g (lw_at lw_m8 71 rfl) rfl
theorem q1828 : (Jvm.Cond.privateMethod ({ cls := "BridgeAuctionModel", name := "isNumber", desc := "(I)Z" } : Jvm.MethodName)) ∈ lw_tbl := lw_at lw_m8 72 rfl
theorem q1829 : (Jvm.Cond.instanceMethod ({ cls := "BridgeAuctionModel", name := "isNumber", desc := "(I)Z" } : Jvm.MethodName)) ∈ lw_all := lw_g (lw_at lw_m8 73 rfl) rfl
theorem q1830 : (Jvm.Cond.code ({ cls := "BridgeAuctionModel", name := "isNumber", desc := "(I)Z" } : Jvm.MethodName) prog_11_method_79_code (4 : Nat) (Option.some Jvm.ClassFile.FieldType.boolean)) ∈ lw_all := lw_g (lw_at lw_m8 74 rfl) rfl
theorem q1831 : (Jvm.Cond.methodLink "BridgeAuctionModel" (236 : Nat) ({ cls := "BridgeAuctionModel", name := "does", desc := "()I" } : Jvm.MethodName)) ∈ lw_all := lw_g (lw_at lw_m8 75 rfl) rfl
theorem q1832 : (Jvm.Cond.privateMethod ({ cls := "BridgeAuctionModel", name := "does", desc := "()I" } : Jvm.MethodName)) ∈ lw_tbl := lw_at lw_m8 76 rfl
theorem q1833 : (Jvm.Cond.instanceMethod ({ cls := "BridgeAuctionModel", name := "does", desc := "()I" } : Jvm.MethodName)) ∈ lw_all := lw_g (lw_at lw_m8 77 rfl) rfl
theorem q1834 : (Jvm.Cond.code ({ cls := "BridgeAuctionModel", name := "does", desc := "()I" } : Jvm.MethodName) prog_11_method_81_code (1 : Nat) (Option.some Jvm.ClassFile.FieldType.int)) ∈ lw_all := lw_g (lw_at lw_m8 78 rfl) rfl
theorem q1836 : (Jvm.Cond.instanceMethod ({ cls := "BridgeAuctionModel", name := "undo", desc := "()I" } : Jvm.MethodName)) ∈ lw_all := lw_g (lw_at lw_m8 80 rfl) rfl
theorem q1837 : (Jvm.Cond.selects "BridgeAuctionModel" ({ cls := "BridgeAuctionModel", name := "undo", desc := "()I" } : Jvm.MethodName) ({ cls := "BridgeAuctionModel", name := "undo", desc := "()I" } : Jvm.MethodName)) ∈ lw_all := lw_g (lw_at lw_m8 81 rfl) rfl
theorem q1838 : (Jvm.Cond.code ({ cls := "BridgeAuctionModel", name := "undo", desc := "()I" } : Jvm.MethodName) prog_11_method_83_code (2 : Nat) (Option.some Jvm.ClassFile.FieldType.int)) ∈ lw_all := lw_g (lw_at lw_m8 82 rfl) rfl
theorem q1840 : (Jvm.Cond.instanceMethod ({ cls := "BridgeAuctionModel", name := "digest", desc := "()J" } : Jvm.MethodName)) ∈ lw_all := lw_g (lw_at lw_m8 84 rfl) rfl
theorem q1841 : (Jvm.Cond.selects "BridgeAuctionModel" ({ cls := "BridgeAuctionModel", name := "digest", desc := "()J" } : Jvm.MethodName) ({ cls := "BridgeAuctionModel", name := "digest", desc := "()J" } : Jvm.MethodName)) ∈ lw_all := lw_g (lw_at lw_m8 85 rfl) rfl
theorem q1842 : (Jvm.Cond.code ({ cls := "BridgeAuctionModel", name := "digest", desc := "()J" } : Jvm.MethodName) prog_11_method_87_code (2 : Nat) (Option.some Jvm.ClassFile.FieldType.long)) ∈ lw_all := lw_g (lw_at lw_m8 86 rfl) rfl
theorem q1843 : (Jvm.Cond.constantLong "BridgeAuctionModel" (248 : Nat) (18498 : Int64)) ∈ lw_all := lw_g (lw_at lw_m8 87 rfl) rfl
theorem q1844 : (Jvm.Cond.methodLink "BridgeAuctionModel" (245 : Nat) ({ cls := "BridgeAuctionModel", name := "mix", desc := "(I)V" } : Jvm.MethodName)) ∈ lw_all := lw_g (lw_at lw_m8 88 rfl) rfl
theorem q1845 : (Jvm.Cond.privateMethod ({ cls := "BridgeAuctionModel", name := "mix", desc := "(I)V" } : Jvm.MethodName)) ∈ lw_tbl := lw_at lw_m8 89 rfl
theorem q1846 : (Jvm.Cond.instanceMethod ({ cls := "BridgeAuctionModel", name := "mix", desc := "(I)V" } : Jvm.MethodName)) ∈ lw_all := lw_g (lw_at lw_m8 90 rfl) rfl
theorem q1847 : (Jvm.Cond.code ({ cls := "BridgeAuctionModel", name := "mix", desc := "(I)V" } : Jvm.MethodName) prog_11_method_84_code (2 : Nat) (Option.none : Option Jvm.ClassFile.FieldType)) ∈ lw_all := lw_g (lw_at lw_m8 91 rfl) rfl
theorem q1848 : (Jvm.Cond.constantLong "BridgeAuctionModel" (239 : Nat) (31 : Int64)) ∈ lw_all := lw_g (lw_at lw_m8 92 rfl) rfl
theorem q1849 : (Jvm.Cond.methodLink "BridgeAuctionModel" (250 : Nat) ({ cls := "BridgeAuctionModel", name := "mixBridge", desc := "(I)V" } : Jvm.MethodName)) ∈ lw_all := lw_g (lw_at lw_m8 93 rfl) rfl
theorem q1850 : (Jvm.Cond.privateMethod ({ cls := "BridgeAuctionModel", name := "mixBridge", desc := "(I)V" } : Jvm.MethodName)) ∈ lw_tbl := lw_at lw_m8 94 rfl
theorem q1851 : (Jvm.Cond.instanceMethod ({ cls := "BridgeAuctionModel", name := "mixBridge", desc := "(I)V" } : Jvm.MethodName)) ∈ lw_all := lw_g (lw_at lw_m8 95 rfl) rfl
theorem q1852 : (Jvm.Cond.code ({ cls := "BridgeAuctionModel", name := "mixBridge", desc := "(I)V" } : Jvm.MethodName) prog_11_method_86_code (3 : Nat) (Option.none : Option Jvm.ClassFile.FieldType)) ∈ lw_all := lw_g (lw_at lw_m8 96 rfl) rfl
theorem q1853 : (Jvm.Cond.methodLink "BridgeAuctionModel" (253 : Nat) ({ cls := "BridgeAuctionModel", name := "mixLink", desc := "(I)V" } : Jvm.MethodName)) ∈ lw_all := lw_g (lw_at lw_m8 97 rfl) rfl
theorem q1854 : (Jvm.Cond.privateMethod ({ cls := "BridgeAuctionModel", name := "mixLink", desc := "(I)V" } : Jvm.MethodName)) ∈ lw_tbl := lw_at lw_m8 98 rfl
theorem q1855 : (Jvm.Cond.instanceMethod ({ cls := "BridgeAuctionModel", name := "mixLink", desc := "(I)V" } : Jvm.MethodName)) ∈ lw_all := lw_g (lw_at lw_m8 99 rfl) rfl
theorem q1856 : (Jvm.Cond.code ({ cls := "BridgeAuctionModel", name := "mixLink", desc := "(I)V" } : Jvm.MethodName) prog_11_method_85_code (3 : Nat) (Option.none : Option Jvm.ClassFile.FieldType)) ∈ lw_all := lw_g (lw_at lw_m8 100 rfl) rfl
theorem q1875 : (Jvm.Cond.castable "BridgeAuctionModel" "java/lang/Object") ∈ lw_tbl := lw_at lw_m8 119 rfl
theorem in_X5 : ∀ w ∈ wsX50, w ∈ lw_all := lw_in wsX50 [1496, 1498, 1500, 1502, 1504, 1506, 1508, 1510, 1512, 1514, 1516, 1518, 1520, 1522, 1524] (by decide +kernel) (by decide +kernel)
theorem q89 : (Jvm.Cond.initialized "java/lang/Throwable") ∈ lw_all := lw_g (lw_at lw_m1 13 rfl) rfl
theorem q617 : (Jvm.Cond.declares ({ cls := "java/lang/Throwable", name := "<init>", desc := "()V" } : Jvm.MethodName)) ∈ lw_tbl := lw_at lw_m3 61 rfl
theorem q618 : (Jvm.Cond.declares ({ cls := "java/lang/Throwable", name := "<init>", desc := "(Ljava/lang/String;)V" } : Jvm.MethodName)) ∈ lw_tbl := lw_at lw_m3 62 rfl
theorem q622 : (Jvm.Cond.lays "java/lang/Throwable" "java/lang/Throwable" "cause" "Ljava/lang/Throwable;") ∈ lw_all := lw_g (lw_at lw_m3 66 rfl) rfl
theorem q624 : (Jvm.Cond.lays "java/lang/Throwable" "java/lang/Throwable" "stackTrace" "[Ljava/lang/StackTraceElement;") ∈ lw_all := lw_g (lw_at lw_m3 68 rfl) rfl
theorem q626 : (Jvm.Cond.lays "java/lang/Throwable" "java/lang/Throwable" "suppressedExceptions" "Ljava/util/List;") ∈ lw_all := lw_g (lw_at lw_m3 70 rfl) rfl
theorem q628 : (Jvm.Cond.lays "java/lang/Throwable" "java/lang/Throwable" "detailMessage" "Ljava/lang/String;") ∈ lw_all := lw_g (lw_at lw_m3 72 rfl) rfl
theorem q630 : (Jvm.Cond.lays "java/lang/Throwable" "java/lang/Throwable" "backtrace" "Ljava/lang/Object;") ∈ lw_all := lw_g (lw_at lw_m3 74 rfl) rfl
theorem q631 : (Jvm.Cond.fieldLink "java/lang/Throwable" (198 : Nat) "java/lang/Throwable" "backtrace" "Ljava/lang/Object;") ∈ lw_all := lw_g (lw_at lw_m3 75 rfl) rfl
theorem q632 : (Jvm.Cond.superclass "java/lang/Throwable" "java/lang/Object") ∈ lw_all := lw_g (lw_at lw_m3 76 rfl) rfl
theorem q633 : (Jvm.Cond.instanceMethod ({ cls := "java/lang/Throwable", name := "<init>", desc := "()V" } : Jvm.MethodName)) ∈ lw_all := lw_g (lw_at lw_m3 77 rfl) rfl
theorem q634 : (Jvm.Cond.code ({ cls := "java/lang/Throwable", name := "<init>", desc := "()V" } : Jvm.MethodName) prog_34_method_1_code (1 : Nat) (Option.none : Option Jvm.ClassFile.FieldType)) ∈ lw_all := lw_g (lw_at lw_m3 78 rfl) rfl
theorem q635 : (Jvm.Cond.methodLink "java/lang/Throwable" (1 : Nat) ({ cls := "java/lang/Object", name := "<init>", desc := "()V" } : Jvm.MethodName)) ∈ lw_all := lw_g (lw_at lw_m3 79 rfl) rfl
theorem q636 : (Jvm.Cond.fieldLink "java/lang/Throwable" (13 : Nat) "java/lang/Throwable" "UNASSIGNED_STACK" "[Ljava/lang/StackTraceElement;") ∈ lw_all := lw_g (lw_at lw_m3 80 rfl) rfl
theorem q637 : (Jvm.Cond.laysStatic "java/lang/Throwable" "UNASSIGNED_STACK" "[Ljava/lang/StackTraceElement;") ∈ lw_tbl := lw_at lw_m3 81 rfl
theorem q638 : (Jvm.Cond.fieldLink "java/lang/Throwable" (20 : Nat) "java/lang/Throwable" "SUPPRESSED_SENTINEL" "Ljava/util/List;") ∈ lw_all := lw_g (lw_at lw_m3 82 rfl) rfl
theorem q639 : (Jvm.Cond.laysStatic "java/lang/Throwable" "SUPPRESSED_SENTINEL" "Ljava/util/List;") ∈ lw_tbl := lw_at lw_m3 83 rfl
theorem q640 : (Jvm.Cond.methodLink "java/lang/Throwable" (27 : Nat) ({ cls := "java/lang/Throwable", name := "fillInStackTrace", desc := "()Ljava/lang/Throwable;" } : Jvm.MethodName)) ∈ lw_all := lw_g (lw_at lw_m3 84 rfl) rfl
theorem q641 : (Jvm.Cond.instanceMethod ({ cls := "java/lang/Throwable", name := "fillInStackTrace", desc := "()Ljava/lang/Throwable;" } : Jvm.MethodName)) ∈ lw_all := lw_g (lw_at lw_m3 85 rfl) rfl
theorem q642 : (Jvm.Cond.sameMethod "java/lang/Throwable" "java/lang/Throwable" "fillInStackTrace" "()Ljava/lang/Throwable;") ∈ lw_all := lw_g (lw_at lw_m3 86 rfl) rfl
theorem q646 : (Jvm.Cond.codeSync ({ cls := "java/lang/Throwable", name := "fillInStackTrace", desc := "()Ljava/lang/Throwable;" } : Jvm.MethodName) prog_34_method_18_code (1 : Nat) (Option.some (Jvm.ClassFile.FieldType.object "java/lang/Throwable"))) ∈ lw_all := lw_g (lw_at lw_m3 90 rfl) rfl
theorem q647 : (Jvm.Cond.methodLink "java/lang/Throwable" (202 : Nat) ({ cls := "java/lang/Throwable", name := "fillInStackTrace", desc := "(I)Ljava/lang/Throwable;" } : Jvm.MethodName)) ∈ lw_all := lw_g (lw_at lw_m3 91 rfl) rfl
theorem q648 : (Jvm.Cond.privateMethod ({ cls := "java/lang/Throwable", name := "fillInStackTrace", desc := "(I)Ljava/lang/Throwable;" } : Jvm.MethodName)) ∈ lw_tbl := lw_at lw_m3 92 rfl
theorem q649 : (Jvm.Cond.instanceMethod ({ cls := "java/lang/Throwable", name := "fillInStackTrace", desc := "(I)Ljava/lang/Throwable;" } : Jvm.MethodName)) ∈ lw_all := lw_g (lw_at lw_m3 93 rfl) rfl
theorem q650 : (Jvm.Cond.instantiable "java/lang/Throwable" (6 : Nat)) ∈ lw_all := lw_g (lw_at lw_m3 94 rfl) rfl
theorem q651 : (Jvm.Cond.native ({ cls := "java/lang/Throwable", name := "fillInStackTrace", desc := "(I)Ljava/lang/Throwable;" } : Jvm.MethodName)) ∈ lw_all := lw_g (lw_at lw_m3 95 rfl) rfl
theorem q738 : (Jvm.Cond.instanceMethod ({ cls := "java/lang/Throwable", name := "<init>", desc := "(Ljava/lang/String;)V" } : Jvm.MethodName)) ∈ lw_all := lw_g (lw_at lw_m3 182 rfl) rfl
theorem q739 : (Jvm.Cond.code ({ cls := "java/lang/Throwable", name := "<init>", desc := "(Ljava/lang/String;)V" } : Jvm.MethodName) prog_34_method_2_code (2 : Nat) (Option.none : Option Jvm.ClassFile.FieldType)) ∈ lw_all := lw_g (lw_at lw_m3 183 rfl) rfl
theorem q740 : (Jvm.Cond.fieldLink "java/lang/Throwable" (198 : Nat) "java/lang/Throwable" "backtrace" "Ljava/lang/Object;") ∈ lw_all := lw_g (lw_at lw_m3 184 rfl) rfl
theorem q741 : (Jvm.Cond.fieldLink "java/lang/Throwable" (31 : Nat) "java/lang/Throwable" "detailMessage" "Ljava/lang/String;") ∈ lw_all := lw_g (lw_at lw_m3 185 rfl) rfl
theorem q742 : (Jvm.Cond.fieldLink "java/lang/Throwable" (7 : Nat) "java/lang/Throwable" "cause" "Ljava/lang/Throwable;") ∈ lw_all := lw_g (lw_at lw_m3 186 rfl) rfl
theorem q743 : (Jvm.Cond.fieldLink "java/lang/Throwable" (17 : Nat) "java/lang/Throwable" "stackTrace" "[Ljava/lang/StackTraceElement;") ∈ lw_all := lw_g (lw_at lw_m3 187 rfl) rfl
theorem q744 : (Jvm.Cond.fieldLink "java/lang/Throwable" (24 : Nat) "java/lang/Throwable" "suppressedExceptions" "Ljava/util/List;") ∈ lw_all := lw_g (lw_at lw_m3 188 rfl) rfl
theorem q745 : (Jvm.Cond.soleField "java/lang/Throwable" "backtrace") ∈ lw_all := lw_g (lw_at lw_m3 189 rfl) rfl
theorem q746 : (Jvm.Cond.soleField "java/lang/Throwable" "detailMessage") ∈ lw_all := lw_g (lw_at lw_m3 190 rfl) rfl
theorem q747 : (Jvm.Cond.soleField "java/lang/Throwable" "cause") ∈ lw_all := lw_g (lw_at lw_m3 191 rfl) rfl
theorem q748 : (Jvm.Cond.soleField "java/lang/Throwable" "stackTrace") ∈ lw_all := lw_g (lw_at lw_m3 192 rfl) rfl
theorem q750 : (Jvm.Cond.soleField "java/lang/Throwable" "depth") ∈ lw_all := lw_g (lw_at lw_m3 194 rfl) rfl
theorem q751 : (Jvm.Cond.soleField "java/lang/Throwable" "suppressedExceptions") ∈ lw_all := lw_g (lw_at lw_m3 195 rfl) rfl
theorem q1862 : (Jvm.Cond.sameMethod "java/lang/Throwable" "java/lang/Throwable" "fillInStackTrace" "(I)Ljava/lang/Throwable;") ∈ lw_all := lw_g (lw_at lw_m8 106 rfl) rfl
theorem q1886 : (Jvm.Cond.castable "java/lang/Throwable" "java/lang/Object") ∈ lw_tbl := lw_at lw_m8 130 rfl
theorem in_J6 : ∀ w ∈ wsJ60, w ∈ lw_all := lw_in wsJ60 [622, 624, 626, 628, 630] (by decide +kernel) (by decide +kernel)
theorem q90 : (Jvm.Cond.initialized "java/lang/Exception") ∈ lw_all := lw_g (lw_at lw_m1 14 rfl) rfl
theorem q615 : (Jvm.Cond.declares ({ cls := "java/lang/Exception", name := "<init>", desc := "()V" } : Jvm.MethodName)) ∈ lw_tbl := lw_at lw_m3 59 rfl
theorem q616 : (Jvm.Cond.declares ({ cls := "java/lang/Exception", name := "<init>", desc := "(Ljava/lang/String;)V" } : Jvm.MethodName)) ∈ lw_tbl := lw_at lw_m3 60 rfl
theorem q735 : (Jvm.Cond.instanceMethod ({ cls := "java/lang/Exception", name := "<init>", desc := "(Ljava/lang/String;)V" } : Jvm.MethodName)) ∈ lw_all := lw_g (lw_at lw_m3 179 rfl) rfl
theorem q736 : (Jvm.Cond.code ({ cls := "java/lang/Exception", name := "<init>", desc := "(Ljava/lang/String;)V" } : Jvm.MethodName) prog_19_method_2_code (2 : Nat) (Option.none : Option Jvm.ClassFile.FieldType)) ∈ lw_all := lw_g (lw_at lw_m3 180 rfl) rfl
theorem q737 : (Jvm.Cond.methodLink "java/lang/Exception" (7 : Nat) ({ cls := "java/lang/Throwable", name := "<init>", desc := "(Ljava/lang/String;)V" } : Jvm.MethodName)) ∈ lw_all := lw_g (lw_at lw_m3 181 rfl) rfl
theorem q91 : (Jvm.Cond.initialized "java/lang/RuntimeException") ∈ lw_all := lw_g (lw_at lw_m1 15 rfl) rfl
theorem q613 : (Jvm.Cond.declares ({ cls := "java/lang/RuntimeException", name := "<init>", desc := "()V" } : Jvm.MethodName)) ∈ lw_tbl := lw_at lw_m3 57 rfl
theorem q614 : (Jvm.Cond.declares ({ cls := "java/lang/RuntimeException", name := "<init>", desc := "(Ljava/lang/String;)V" } : Jvm.MethodName)) ∈ lw_tbl := lw_at lw_m3 58 rfl
theorem q732 : (Jvm.Cond.instanceMethod ({ cls := "java/lang/RuntimeException", name := "<init>", desc := "(Ljava/lang/String;)V" } : Jvm.MethodName)) ∈ lw_all := lw_g (lw_at lw_m3 176 rfl) rfl
theorem q733 : (Jvm.Cond.code ({ cls := "java/lang/RuntimeException", name := "<init>", desc := "(Ljava/lang/String;)V" } : Jvm.MethodName) prog_27_method_2_code (2 : Nat) (Option.none : Option Jvm.ClassFile.FieldType)) ∈ lw_all := lw_g (lw_at lw_m3 177 rfl) rfl
theorem q734 : (Jvm.Cond.methodLink "java/lang/RuntimeException" (7 : Nat) ({ cls := "java/lang/Exception", name := "<init>", desc := "(Ljava/lang/String;)V" } : Jvm.MethodName)) ∈ lw_all := lw_g (lw_at lw_m3 178 rfl) rfl
theorem q92 : (Jvm.Cond.initialized "java/lang/IllegalArgumentException") ∈ lw_all := lw_g (lw_at lw_m1 16 rfl) rfl
theorem q320 : (Jvm.Cond.selects "java/lang/IllegalArgumentException" ({ cls := "java/lang/Object", name := "getClass", desc := "()Ljava/lang/Class;" } : Jvm.MethodName) ({ cls := "java/lang/Object", name := "getClass", desc := "()Ljava/lang/Class;" } : Jvm.MethodName)) ∈ lw_all := lw_g (lw_at lw_m2 4 rfl) rfl
theorem q611 : (Jvm.Cond.instantiable "java/lang/IllegalArgumentException" (6 : Nat)) ∈ lw_all := lw_g (lw_at lw_m3 55 rfl) rfl
theorem q612 : (Jvm.Cond.castable "java/lang/IllegalArgumentException" "java/lang/IllegalArgumentException") ∈ lw_tbl := lw_at lw_m3 56 rfl
theorem q619 : (Jvm.Cond.selects "java/lang/IllegalArgumentException" ({ cls := "java/lang/Throwable", name := "fillInStackTrace", desc := "(I)Ljava/lang/Throwable;" } : Jvm.MethodName) ({ cls := "java/lang/Throwable", name := "fillInStackTrace", desc := "(I)Ljava/lang/Throwable;" } : Jvm.MethodName)) ∈ lw_all := lw_g (lw_at lw_m3 63 rfl) rfl
theorem q620 : (Jvm.Cond.selects "java/lang/IllegalArgumentException" ({ cls := "java/lang/Throwable", name := "fillInStackTrace", desc := "()Ljava/lang/Throwable;" } : Jvm.MethodName) ({ cls := "java/lang/Throwable", name := "fillInStackTrace", desc := "()Ljava/lang/Throwable;" } : Jvm.MethodName)) ∈ lw_all := lw_g (lw_at lw_m3 64 rfl) rfl
theorem q621 : (Jvm.Cond.lays "java/lang/IllegalArgumentException" "java/lang/Throwable" "cause" "Ljava/lang/Throwable;") ∈ lw_all := lw_g (lw_at lw_m3 65 rfl) rfl
theorem q623 : (Jvm.Cond.lays "java/lang/IllegalArgumentException" "java/lang/Throwable" "stackTrace" "[Ljava/lang/StackTraceElement;") ∈ lw_all := lw_g (lw_at lw_m3 67 rfl) rfl
theorem q625 : (Jvm.Cond.lays "java/lang/IllegalArgumentException" "java/lang/Throwable" "suppressedExceptions" "Ljava/util/List;") ∈ lw_all := lw_g (lw_at lw_m3 69 rfl) rfl
theorem q627 : (Jvm.Cond.lays "java/lang/IllegalArgumentException" "java/lang/Throwable" "detailMessage" "Ljava/lang/String;") ∈ lw_all := lw_g (lw_at lw_m3 71 rfl) rfl
theorem q629 : (Jvm.Cond.lays "java/lang/IllegalArgumentException" "java/lang/Throwable" "backtrace" "Ljava/lang/Object;") ∈ lw_all := lw_g (lw_at lw_m3 73 rfl) rfl
theorem q729 : (Jvm.Cond.instanceMethod ({ cls := "java/lang/IllegalArgumentException", name := "<init>", desc := "(Ljava/lang/String;)V" } : Jvm.MethodName)) ∈ lw_all := lw_g (lw_at lw_m3 173 rfl) rfl
theorem q730 : (Jvm.Cond.code ({ cls := "java/lang/IllegalArgumentException", name := "<init>", desc := "(Ljava/lang/String;)V" } : Jvm.MethodName) prog_20_method_2_code (2 : Nat) (Option.none : Option Jvm.ClassFile.FieldType)) ∈ lw_all := lw_g (lw_at lw_m3 174 rfl) rfl
theorem q731 : (Jvm.Cond.methodLink "java/lang/IllegalArgumentException" (7 : Nat) ({ cls := "java/lang/RuntimeException", name := "<init>", desc := "(Ljava/lang/String;)V" } : Jvm.MethodName)) ∈ lw_all := lw_g (lw_at lw_m3 175 rfl) rfl
theorem q749 : (Jvm.Cond.lays "java/lang/IllegalArgumentException" "java/lang/Throwable" "depth" "I") ∈ lw_all := lw_g (lw_at lw_m3 193 rfl) rfl
theorem q752 : (Jvm.Cond.superclass "java/lang/IllegalArgumentException" "java/lang/RuntimeException") ∈ lw_all := lw_g (lw_at lw_m3 196 rfl) rfl
theorem q1876 : (Jvm.Cond.castable "java/lang/IllegalArgumentException" "java/lang/Object") ∈ lw_tbl := lw_at lw_m8 120 rfl
theorem in_J9 : ∀ w ∈ wsJ90, w ∈ lw_all := lw_in wsJ90 [621, 623, 625, 627, 629, 749] (by decide +kernel) (by decide +kernel)
theorem q93 : (Jvm.Cond.initialized "java/util/Objects") ∈ lw_all := lw_g (lw_at lw_m1 17 rfl) rfl
theorem q394 : (Jvm.Cond.static ({ cls := "java/util/Objects", name := "checkIndex", desc := "(II)I" } : Jvm.MethodName)) ∈ lw_all := lw_g (lw_at lw_m2 78 rfl) rfl
theorem q395 : (Jvm.Cond.code ({ cls := "java/util/Objects", name := "checkIndex", desc := "(II)I" } : Jvm.MethodName) prog_43_method_17_code (2 : Nat) (Option.some Jvm.ClassFile.FieldType.int)) ∈ lw_all := lw_g (lw_at lw_m2 79 rfl) rfl
theorem q396 : (Jvm.Cond.methodLink "java/util/Objects" (105 : Nat) ({ cls := "jdk/internal/util/Preconditions", name := "checkIndex", desc := "(IILjava/util/function/BiFunction;)I" } : Jvm.MethodName)) ∈ lw_all := lw_g (lw_at lw_m2 80 rfl) rfl
theorem q94 : (Jvm.Cond.initialized "jdk/internal/util/Preconditions") ∈ lw_all := lw_g (lw_at lw_m1 18 rfl) rfl
theorem q397 : (Jvm.Cond.static ({ cls := "jdk/internal/util/Preconditions", name := "checkIndex", desc := "(IILjava/util/function/BiFunction;)I" } : Jvm.MethodName)) ∈ lw_all := lw_g (lw_at lw_m2 81 rfl) rfl
theorem q398 : (Jvm.Cond.code ({ cls := "jdk/internal/util/Preconditions", name := "checkIndex", desc := "(IILjava/util/function/BiFunction;)I" } : Jvm.MethodName) prog_48_method_11_code (3 : Nat) (Option.some Jvm.ClassFile.FieldType.int)) ∈ lw_all := lw_g (lw_at lw_m2 82 rfl) rfl
theorem q551 : (Jvm.Cond.laysStatic "jdk/internal/util/Preconditions" "SIOOBE_FORMATTER" "Ljava/util/function/BiFunction;") ∈ lw_tbl := lw_at lw_m2 235 rfl
theorem q553 : (Jvm.Cond.static ({ cls := "jdk/internal/util/Preconditions", name := "checkFromIndexSize", desc := "(IIILjava/util/function/BiFunction;)I" } : Jvm.MethodName)) ∈ lw_all := lw_g (lw_at lw_m2 237 rfl) rfl
theorem q554 : (Jvm.Cond.code ({ cls := "jdk/internal/util/Preconditions", name := "checkFromIndexSize", desc := "(IIILjava/util/function/BiFunction;)I" } : Jvm.MethodName) prog_48_method_13_code (4 : Nat) (Option.some Jvm.ClassFile.FieldType.int)) ∈ lw_all := lw_g (lw_at lw_m2 238 rfl) rfl
theorem q681 : (Jvm.Cond.static ({ cls := "jdk/internal/util/Preconditions", name := "checkFromToIndex", desc := "(IIILjava/util/function/BiFunction;)I" } : Jvm.MethodName)) ∈ lw_all := lw_g (lw_at lw_m3 125 rfl) rfl
theorem q682 : (Jvm.Cond.code ({ cls := "jdk/internal/util/Preconditions", name := "checkFromToIndex", desc := "(IIILjava/util/function/BiFunction;)I" } : Jvm.MethodName) prog_48_method_12_code (4 : Nat) (Option.some Jvm.ClassFile.FieldType.int)) ∈ lw_all := lw_g (lw_at lw_m3 126 rfl) rfl
theorem q95 : (Jvm.Cond.initialized "BridgeAuction$Link") ∈ lw_all := lw_g (lw_at lw_m1 19 rfl) rfl
theorem q313 : (Jvm.Cond.selects "BridgeAuction$Link" ({ cls := "java/lang/Object", name := "getClass", desc := "()Ljava/lang/Class;" } : Jvm.MethodName) ({ cls := "java/lang/Object", name := "getClass", desc := "()Ljava/lang/Class;" } : Jvm.MethodName)) ∈ lw_all := lw_g (lw_at lw_m1 237 rfl) rfl
theorem q405 : (Jvm.Cond.instanceMethod ({ cls := "BridgeAuction$Link", name := "carries", desc := "()Z" } : Jvm.MethodName)) ∈ lw_all := lw_g (lw_at lw_m2 89 rfl) rfl
theorem q406 : (Jvm.Cond.selects "BridgeAuction$Link" ({ cls := "BridgeAuction$Link", name := "carries", desc := "()Z" } : Jvm.MethodName) ({ cls := "BridgeAuction$Link", name := "carries", desc := "()Z" } : Jvm.MethodName)) ∈ lw_all := lw_g (lw_at lw_m2 90 rfl) rfl
theorem q407 : (Jvm.Cond.code ({ cls := "BridgeAuction$Link", name := "carries", desc := "()Z" } : Jvm.MethodName) prog_4_method_5_code (1 : Nat) (Option.some Jvm.ClassFile.FieldType.boolean)) ∈ lw_all := lw_g (lw_at lw_m2 91 rfl) rfl
theorem q914 : (Jvm.Cond.instantiable "BridgeAuction$Link" (11 : Nat)) ∈ lw_all := lw_g (lw_at lw_m4 118 rfl) rfl
theorem q916 : (Jvm.Cond.instanceMethod ({ cls := "BridgeAuction$Link", name := "<init>", desc := "(III)V" } : Jvm.MethodName)) ∈ lw_all := lw_g (lw_at lw_m4 120 rfl) rfl
theorem q917 : (Jvm.Cond.code ({ cls := "BridgeAuction$Link", name := "<init>", desc := "(III)V" } : Jvm.MethodName) prog_4_method_1_code (4 : Nat) (Option.none : Option Jvm.ClassFile.FieldType)) ∈ lw_all := lw_g (lw_at lw_m4 121 rfl) rfl
theorem q918 : (Jvm.Cond.methodLink "BridgeAuction$Link" (3 : Nat) ({ cls := "java/lang/Object", name := "<init>", desc := "()V" } : Jvm.MethodName)) ∈ lw_all := lw_g (lw_at lw_m4 122 rfl) rfl
theorem q919 : (Jvm.Cond.classLink "BridgeAuction$Link" (23 : Nat) "BridgeAuction$Port") ∈ lw_all := lw_g (lw_at lw_m4 123 rfl) rfl
theorem q921 : (Jvm.Cond.methodLinkNest "BridgeAuction$Link" (25 : Nat) ({ cls := "BridgeAuction$Port", name := "<init>", desc := "()V" } : Jvm.MethodName) "BridgeAuction") ∈ lw_tbl := lw_at lw_m4 125 rfl
theorem q927 : (Jvm.Cond.fieldLinkNest "BridgeAuction$Link" (73 : Nat) "BridgeAuction$Port" "state" "I" "BridgeAuction") ∈ lw_tbl := lw_at lw_m4 131 rfl
theorem q936 : (Jvm.Cond.methodLink "BridgeAuction$Link" (33 : Nat) ({ cls := "java/lang/Math", name := "min", desc := "(II)I" } : Jvm.MethodName)) ∈ lw_all := lw_g (lw_at lw_m4 140 rfl) rfl
theorem q937 : (Jvm.Cond.methodLink "BridgeAuction$Link" (42 : Nat) ({ cls := "java/lang/Math", name := "max", desc := "(II)I" } : Jvm.MethodName)) ∈ lw_all := lw_g (lw_at lw_m4 141 rfl) rfl
theorem q938 : (Jvm.Cond.fieldLink "BridgeAuction$Link" (39 : Nat) "BridgeAuction$Link" "low" "I") ∈ lw_all := lw_g (lw_at lw_m4 142 rfl) rfl
theorem q940 : (Jvm.Cond.fieldLink "BridgeAuction$Link" (45 : Nat) "BridgeAuction$Link" "high" "I") ∈ lw_all := lw_g (lw_at lw_m4 144 rfl) rfl
theorem q942 : (Jvm.Cond.fieldLink "BridgeAuction$Link" (48 : Nat) "BridgeAuction$Link" "base" "I") ∈ lw_all := lw_g (lw_at lw_m4 146 rfl) rfl
theorem q943 : (Jvm.Cond.fieldLink "BridgeAuction$Link" (51 : Nat) "BridgeAuction$Link" "cost" "I") ∈ lw_all := lw_g (lw_at lw_m4 147 rfl) rfl
theorem q945 : (Jvm.Cond.fieldLink "BridgeAuction$Link" (9 : Nat) "BridgeAuction$Link" "up" "Z") ∈ lw_all := lw_g (lw_at lw_m4 149 rfl) rfl
theorem q947 : (Jvm.Cond.fieldLink "BridgeAuction$Link" (15 : Nat) "BridgeAuction$Link" "winner" "I") ∈ lw_all := lw_g (lw_at lw_m4 151 rfl) rfl
theorem q949 : (Jvm.Cond.fieldLink "BridgeAuction$Link" (57 : Nat) "BridgeAuction$Link" "price" "I") ∈ lw_all := lw_g (lw_at lw_m4 153 rfl) rfl
theorem q951 : (Jvm.Cond.fieldLink "BridgeAuction$Link" (60 : Nat) "BridgeAuction$Link" "row" "I") ∈ lw_all := lw_g (lw_at lw_m4 155 rfl) rfl
theorem q952 : (Jvm.Cond.fieldLink "BridgeAuction$Link" (19 : Nat) "BridgeAuction$Link" "bids" "[I") ∈ lw_all := lw_g (lw_at lw_m4 156 rfl) rfl
theorem q955 : (Jvm.Cond.fieldLink "BridgeAuction$Link" (26 : Nat) "BridgeAuction$Link" "lowPort" "LBridgeAuction$Port;") ∈ lw_all := lw_g (lw_at lw_m4 159 rfl) rfl
theorem q958 : (Jvm.Cond.fieldLink "BridgeAuction$Link" (30 : Nat) "BridgeAuction$Link" "highPort" "LBridgeAuction$Port;") ∈ lw_all := lw_g (lw_at lw_m4 162 rfl) rfl
theorem q961 : (Jvm.Cond.laysFinal "BridgeAuction$Link" "BridgeAuction$Link" "low" "I") ∈ lw_all := lw_g (lw_at lw_m4 165 rfl) rfl
theorem q962 : (Jvm.Cond.soleField "BridgeAuction$Link" "low") ∈ lw_all := lw_g (lw_at lw_m4 166 rfl) rfl
theorem q963 : (Jvm.Cond.laysFinal "BridgeAuction$Link" "BridgeAuction$Link" "high" "I") ∈ lw_all := lw_g (lw_at lw_m4 167 rfl) rfl
theorem q964 : (Jvm.Cond.soleField "BridgeAuction$Link" "high") ∈ lw_all := lw_g (lw_at lw_m4 168 rfl) rfl
theorem q965 : (Jvm.Cond.laysFinal "BridgeAuction$Link" "BridgeAuction$Link" "base" "I") ∈ lw_all := lw_g (lw_at lw_m4 169 rfl) rfl
theorem q966 : (Jvm.Cond.soleField "BridgeAuction$Link" "base") ∈ lw_all := lw_g (lw_at lw_m4 170 rfl) rfl
theorem q967 : (Jvm.Cond.lays "BridgeAuction$Link" "BridgeAuction$Link" "cost" "I") ∈ lw_all := lw_g (lw_at lw_m4 171 rfl) rfl
theorem q968 : (Jvm.Cond.soleField "BridgeAuction$Link" "cost") ∈ lw_all := lw_g (lw_at lw_m4 172 rfl) rfl
theorem q969 : (Jvm.Cond.lays "BridgeAuction$Link" "BridgeAuction$Link" "up" "Z") ∈ lw_all := lw_g (lw_at lw_m4 173 rfl) rfl
theorem q970 : (Jvm.Cond.soleField "BridgeAuction$Link" "up") ∈ lw_all := lw_g (lw_at lw_m4 174 rfl) rfl
theorem q971 : (Jvm.Cond.lays "BridgeAuction$Link" "BridgeAuction$Link" "winner" "I") ∈ lw_all := lw_g (lw_at lw_m4 175 rfl) rfl
theorem q972 : (Jvm.Cond.soleField "BridgeAuction$Link" "winner") ∈ lw_all := lw_g (lw_at lw_m4 176 rfl) rfl
theorem q973 : (Jvm.Cond.lays "BridgeAuction$Link" "BridgeAuction$Link" "price" "I") ∈ lw_all := lw_g (lw_at lw_m4 177 rfl) rfl
theorem q974 : (Jvm.Cond.soleField "BridgeAuction$Link" "price") ∈ lw_all := lw_g (lw_at lw_m4 178 rfl) rfl
theorem q975 : (Jvm.Cond.lays "BridgeAuction$Link" "BridgeAuction$Link" "row" "I") ∈ lw_all := lw_g (lw_at lw_m4 179 rfl) rfl
theorem q976 : (Jvm.Cond.soleField "BridgeAuction$Link" "row") ∈ lw_all := lw_g (lw_at lw_m4 180 rfl) rfl
theorem q977 : (Jvm.Cond.laysFinal "BridgeAuction$Link" "BridgeAuction$Link" "bids" "[I") ∈ lw_all := lw_g (lw_at lw_m4 181 rfl) rfl
theorem q978 : (Jvm.Cond.soleField "BridgeAuction$Link" "bids") ∈ lw_all := lw_g (lw_at lw_m4 182 rfl) rfl
theorem q979 : (Jvm.Cond.laysFinal "BridgeAuction$Link" "BridgeAuction$Link" "lowPort" "LBridgeAuction$Port;") ∈ lw_all := lw_g (lw_at lw_m4 183 rfl) rfl
theorem q980 : (Jvm.Cond.soleField "BridgeAuction$Link" "lowPort") ∈ lw_all := lw_g (lw_at lw_m4 184 rfl) rfl
theorem q981 : (Jvm.Cond.laysFinal "BridgeAuction$Link" "BridgeAuction$Link" "highPort" "LBridgeAuction$Port;") ∈ lw_all := lw_g (lw_at lw_m4 185 rfl) rfl
theorem q982 : (Jvm.Cond.soleField "BridgeAuction$Link" "highPort") ∈ lw_all := lw_g (lw_at lw_m4 186 rfl) rfl
theorem q983 : (Jvm.Cond.superclass "BridgeAuction$Link" "java/lang/Object") ∈ lw_all := lw_g (lw_at lw_m4 187 rfl) rfl
theorem q1060 : (Jvm.Cond.instanceMethod ({ cls := "BridgeAuction$Link", name := "follow", desc := "(I)V" } : Jvm.MethodName)) ∈ lw_all := lw_g (lw_at lw_m5 24 rfl) rfl
theorem q1061 : (Jvm.Cond.selects "BridgeAuction$Link" ({ cls := "BridgeAuction$Link", name := "follow", desc := "(I)V" } : Jvm.MethodName) ({ cls := "BridgeAuction$Link", name := "follow", desc := "(I)V" } : Jvm.MethodName)) ∈ lw_all := lw_g (lw_at lw_m5 25 rfl) rfl
theorem q1062 : (Jvm.Cond.code ({ cls := "BridgeAuction$Link", name := "follow", desc := "(I)V" } : Jvm.MethodName) prog_4_method_6_code (3 : Nat) (Option.none : Option Jvm.ClassFile.FieldType)) ∈ lw_all := lw_g (lw_at lw_m5 26 rfl) rfl
theorem q1063 : (Jvm.Cond.methodLink "BridgeAuction$Link" (76 : Nat) ({ cls := "java/lang/Math", name := "abs", desc := "(I)I" } : Jvm.MethodName)) ∈ lw_all := lw_g (lw_at lw_m5 27 rfl) rfl
theorem q1071 : (Jvm.Cond.instanceMethod ({ cls := "BridgeAuction$Link", name := "isAt", desc := "(I)Z" } : Jvm.MethodName)) ∈ lw_all := lw_g (lw_at lw_m5 35 rfl) rfl
theorem q1072 : (Jvm.Cond.selects "BridgeAuction$Link" ({ cls := "BridgeAuction$Link", name := "isAt", desc := "(I)Z" } : Jvm.MethodName) ({ cls := "BridgeAuction$Link", name := "isAt", desc := "(I)Z" } : Jvm.MethodName)) ∈ lw_all := lw_g (lw_at lw_m5 36 rfl) rfl
theorem q1073 : (Jvm.Cond.code ({ cls := "BridgeAuction$Link", name := "isAt", desc := "(I)Z" } : Jvm.MethodName) prog_4_method_3_code (2 : Nat) (Option.some Jvm.ClassFile.FieldType.boolean)) ∈ lw_all := lw_g (lw_at lw_m5 37 rfl) rfl
theorem q1075 : (Jvm.Cond.instanceMethod ({ cls := "BridgeAuction$Link", name := "otherEnd", desc := "(I)I" } : Jvm.MethodName)) ∈ lw_all := lw_g (lw_at lw_m5 39 rfl) rfl
theorem q1076 : (Jvm.Cond.selects "BridgeAuction$Link" ({ cls := "BridgeAuction$Link", name := "otherEnd", desc := "(I)I" } : Jvm.MethodName) ({ cls := "BridgeAuction$Link", name := "otherEnd", desc := "(I)I" } : Jvm.MethodName)) ∈ lw_all := lw_g (lw_at lw_m5 40 rfl) rfl
theorem q1077 : (Jvm.Cond.code ({ cls := "BridgeAuction$Link", name := "otherEnd", desc := "(I)I" } : Jvm.MethodName) prog_4_method_4_code (2 : Nat) (Option.some Jvm.ClassFile.FieldType.int)) ∈ lw_all := lw_g (lw_at lw_m5 41 rfl) rfl
theorem q1170 : (Jvm.Cond.instanceMethod ({ cls := "BridgeAuction$Link", name := "copy", desc := "()LBridgeAuction$Link;" } : Jvm.MethodName)) ∈ lw_all := lw_g (lw_at lw_m5 134 rfl) rfl
theorem q1171 : (Jvm.Cond.selects "BridgeAuction$Link" ({ cls := "BridgeAuction$Link", name := "copy", desc := "()LBridgeAuction$Link;" } : Jvm.MethodName) ({ cls := "BridgeAuction$Link", name := "copy", desc := "()LBridgeAuction$Link;" } : Jvm.MethodName)) ∈ lw_all := lw_g (lw_at lw_m5 135 rfl) rfl
theorem q1172 : (Jvm.Cond.code ({ cls := "BridgeAuction$Link", name := "copy", desc := "()LBridgeAuction$Link;" } : Jvm.MethodName) prog_4_method_2_code (2 : Nat) (Option.some (Jvm.ClassFile.FieldType.object "BridgeAuction$Link"))) ∈ lw_all := lw_g (lw_at lw_m5 136 rfl) rfl
theorem q1173 : (Jvm.Cond.classLink "BridgeAuction$Link" (10 : Nat) "BridgeAuction$Link") ∈ lw_all := lw_g (lw_at lw_m5 137 rfl) rfl
theorem q1174 : (Jvm.Cond.methodLink "BridgeAuction$Link" (54 : Nat) ({ cls := "BridgeAuction$Link", name := "<init>", desc := "(III)V" } : Jvm.MethodName)) ∈ lw_all := lw_g (lw_at lw_m5 138 rfl) rfl
theorem q1175 : (Jvm.Cond.methodLink "BridgeAuction$Link" (63 : Nat) ({ cls := "java/lang/System", name := "arraycopy", desc := "(Ljava/lang/Object;ILjava/lang/Object;II)V" } : Jvm.MethodName)) ∈ lw_all := lw_g (lw_at lw_m5 139 rfl) rfl
theorem q1176 : (Jvm.Cond.methodLink "BridgeAuction$Link" (69 : Nat) ({ cls := "BridgeAuction$Port", name := "take", desc := "(LBridgeAuction$Port;)V" } : Jvm.MethodName)) ∈ lw_all := lw_g (lw_at lw_m5 140 rfl) rfl
theorem q1237 : (Jvm.Cond.instanceMethod ({ cls := "BridgeAuction$Link", name := "value", desc := "(I)I" } : Jvm.MethodName)) ∈ lw_all := lw_g (lw_at lw_m5 201 rfl) rfl
theorem q1238 : (Jvm.Cond.selects "BridgeAuction$Link" ({ cls := "BridgeAuction$Link", name := "value", desc := "(I)I" } : Jvm.MethodName) ({ cls := "BridgeAuction$Link", name := "value", desc := "(I)I" } : Jvm.MethodName)) ∈ lw_all := lw_g (lw_at lw_m5 202 rfl) rfl
theorem q1239 : (Jvm.Cond.code ({ cls := "BridgeAuction$Link", name := "value", desc := "(I)I" } : Jvm.MethodName) prog_4_method_7_code (2 : Nat) (Option.some Jvm.ClassFile.FieldType.int)) ∈ lw_all := lw_g (lw_at lw_m5 203 rfl) rfl
theorem q1240 : (Jvm.Cond.methodLink "BridgeAuction$Link" (80 : Nat) ({ cls := "BridgeAuction$Link", name := "carries", desc := "()Z" } : Jvm.MethodName)) ∈ lw_all := lw_g (lw_at lw_m5 204 rfl) rfl
theorem q1877 : (Jvm.Cond.castable "BridgeAuction$Link" "java/lang/Object") ∈ lw_tbl := lw_at lw_m8 121 rfl
theorem in_X6 : ∀ w ∈ wsX60, w ∈ lw_all := lw_in wsX60 [961, 963, 965, 967, 969, 971, 973, 975, 977, 979, 981] (by decide +kernel) (by decide +kernel)
theorem q96 : (Jvm.Cond.initialized "BridgeAuction$Port") ∈ lw_all := lw_g (lw_at lw_m1 20 rfl) rfl
theorem q315 : (Jvm.Cond.selects "BridgeAuction$Port" ({ cls := "java/lang/Object", name := "getClass", desc := "()Ljava/lang/Class;" } : Jvm.MethodName) ({ cls := "java/lang/Object", name := "getClass", desc := "()Ljava/lang/Class;" } : Jvm.MethodName)) ∈ lw_all := lw_g (lw_at lw_m1 239 rfl) rfl
theorem q920 : (Jvm.Cond.instantiable "BridgeAuction$Port" (3 : Nat)) ∈ lw_all := lw_g (lw_at lw_m4 124 rfl) rfl
theorem q922 : (Jvm.Cond.instanceMethod ({ cls := "BridgeAuction$Port", name := "<init>", desc := "()V" } : Jvm.MethodName)) ∈ lw_all := lw_g (lw_at lw_m4 126 rfl) rfl
theorem q923 : (Jvm.Cond.code ({ cls := "BridgeAuction$Port", name := "<init>", desc := "()V" } : Jvm.MethodName) prog_6_method_1_code (1 : Nat) (Option.none : Option Jvm.ClassFile.FieldType)) ∈ lw_all := lw_g (lw_at lw_m4 127 rfl) rfl
theorem q924 : (Jvm.Cond.methodLink "BridgeAuction$Port" (3 : Nat) ({ cls := "java/lang/Object", name := "<init>", desc := "()V" } : Jvm.MethodName)) ∈ lw_all := lw_g (lw_at lw_m4 128 rfl) rfl
theorem q925 : (Jvm.Cond.fieldLink "BridgeAuction$Port" (9 : Nat) "BridgeAuction$Port" "role" "I") ∈ lw_all := lw_g (lw_at lw_m4 129 rfl) rfl
theorem q926 : (Jvm.Cond.fieldLink "BridgeAuction$Port" (15 : Nat) "BridgeAuction$Port" "state" "I") ∈ lw_all := lw_g (lw_at lw_m4 130 rfl) rfl
theorem q928 : (Jvm.Cond.fieldLink "BridgeAuction$Port" (18 : Nat) "BridgeAuction$Port" "timer" "I") ∈ lw_all := lw_g (lw_at lw_m4 132 rfl) rfl
theorem q929 : (Jvm.Cond.lays "BridgeAuction$Port" "BridgeAuction$Port" "role" "I") ∈ lw_all := lw_g (lw_at lw_m4 133 rfl) rfl
theorem q930 : (Jvm.Cond.soleField "BridgeAuction$Port" "role") ∈ lw_all := lw_g (lw_at lw_m4 134 rfl) rfl
theorem q931 : (Jvm.Cond.lays "BridgeAuction$Port" "BridgeAuction$Port" "state" "I") ∈ lw_all := lw_g (lw_at lw_m4 135 rfl) rfl
theorem q932 : (Jvm.Cond.soleField "BridgeAuction$Port" "state") ∈ lw_all := lw_g (lw_at lw_m4 136 rfl) rfl
theorem q933 : (Jvm.Cond.lays "BridgeAuction$Port" "BridgeAuction$Port" "timer" "I") ∈ lw_all := lw_g (lw_at lw_m4 137 rfl) rfl
theorem q934 : (Jvm.Cond.soleField "BridgeAuction$Port" "timer") ∈ lw_all := lw_g (lw_at lw_m4 138 rfl) rfl
theorem q935 : (Jvm.Cond.superclass "BridgeAuction$Port" "java/lang/Object") ∈ lw_all := lw_g (lw_at lw_m4 139 rfl) rfl
theorem q1139 : (Jvm.Cond.instanceMethod ({ cls := "BridgeAuction$Port", name := "goOn", desc := "(II)Z" } : Jvm.MethodName)) ∈ lw_all := lw_g (lw_at lw_m5 103 rfl) rfl
theorem q1140 : (Jvm.Cond.selects "BridgeAuction$Port" ({ cls := "BridgeAuction$Port", name := "goOn", desc := "(II)Z" } : Jvm.MethodName) ({ cls := "BridgeAuction$Port", name := "goOn", desc := "(II)Z" } : Jvm.MethodName)) ∈ lw_all := lw_g (lw_at lw_m5 104 rfl) rfl
theorem q1141 : (Jvm.Cond.code ({ cls := "BridgeAuction$Port", name := "goOn", desc := "(II)Z" } : Jvm.MethodName) prog_6_method_4_code (4 : Nat) (Option.some Jvm.ClassFile.FieldType.boolean)) ∈ lw_all := lw_g (lw_at lw_m5 105 rfl) rfl
theorem q1142 : (Jvm.Cond.methodLink "BridgeAuction$Port" (21 : Nat) ({ cls := "BridgeAuction$Port", name := "enter", desc := "(II)V" } : Jvm.MethodName)) ∈ lw_all := lw_g (lw_at lw_m5 106 rfl) rfl
theorem q1143 : (Jvm.Cond.privateMethod ({ cls := "BridgeAuction$Port", name := "enter", desc := "(II)V" } : Jvm.MethodName)) ∈ lw_tbl := lw_at lw_m5 107 rfl
theorem q1144 : (Jvm.Cond.instanceMethod ({ cls := "BridgeAuction$Port", name := "enter", desc := "(II)V" } : Jvm.MethodName)) ∈ lw_all := lw_g (lw_at lw_m5 108 rfl) rfl
theorem q1145 : (Jvm.Cond.code ({ cls := "BridgeAuction$Port", name := "enter", desc := "(II)V" } : Jvm.MethodName) prog_6_method_3_code (3 : Nat) (Option.none : Option Jvm.ClassFile.FieldType)) ∈ lw_all := lw_g (lw_at lw_m5 109 rfl) rfl
theorem q1177 : (Jvm.Cond.instanceMethod ({ cls := "BridgeAuction$Port", name := "take", desc := "(LBridgeAuction$Port;)V" } : Jvm.MethodName)) ∈ lw_all := lw_g (lw_at lw_m5 141 rfl) rfl
theorem q1178 : (Jvm.Cond.selects "BridgeAuction$Port" ({ cls := "BridgeAuction$Port", name := "take", desc := "(LBridgeAuction$Port;)V" } : Jvm.MethodName) ({ cls := "BridgeAuction$Port", name := "take", desc := "(LBridgeAuction$Port;)V" } : Jvm.MethodName)) ∈ lw_all := lw_g (lw_at lw_m5 142 rfl) rfl
theorem q1179 : (Jvm.Cond.code ({ cls := "BridgeAuction$Port", name := "take", desc := "(LBridgeAuction$Port;)V" } : Jvm.MethodName) prog_6_method_2_code (2 : Nat) (Option.none : Option Jvm.ClassFile.FieldType)) ∈ lw_all := lw_g (lw_at lw_m5 143 rfl) rfl
theorem q1242 : (Jvm.Cond.instanceMethod ({ cls := "BridgeAuction$Port", name := "value", desc := "(I)I" } : Jvm.MethodName)) ∈ lw_all := lw_g (lw_at lw_m5 206 rfl) rfl
theorem q1243 : (Jvm.Cond.selects "BridgeAuction$Port" ({ cls := "BridgeAuction$Port", name := "value", desc := "(I)I" } : Jvm.MethodName) ({ cls := "BridgeAuction$Port", name := "value", desc := "(I)I" } : Jvm.MethodName)) ∈ lw_all := lw_g (lw_at lw_m5 207 rfl) rfl
theorem q1244 : (Jvm.Cond.code ({ cls := "BridgeAuction$Port", name := "value", desc := "(I)I" } : Jvm.MethodName) prog_6_method_5_code (2 : Nat) (Option.some Jvm.ClassFile.FieldType.int)) ∈ lw_all := lw_g (lw_at lw_m5 208 rfl) rfl
theorem q1878 : (Jvm.Cond.castable "BridgeAuction$Port" "java/lang/Object") ∈ lw_tbl := lw_at lw_m8 122 rfl
theorem in_X7 : ∀ w ∈ wsX70, w ∈ lw_all := lw_in wsX70 [929, 931, 933] (by decide +kernel) (by decide +kernel)
theorem q97 : (Jvm.Cond.initialized "java/lang/IndexOutOfBoundsException") ∈ lw_all := lw_g (lw_at lw_m1 21 rfl) rfl
theorem q322 : (Jvm.Cond.selects "java/lang/IndexOutOfBoundsException" ({ cls := "java/lang/Object", name := "getClass", desc := "()Ljava/lang/Class;" } : Jvm.MethodName) ({ cls := "java/lang/Object", name := "getClass", desc := "()Ljava/lang/Class;" } : Jvm.MethodName)) ∈ lw_all := lw_g (lw_at lw_m2 6 rfl) rfl
theorem q645 : (Jvm.Cond.selects "java/lang/IndexOutOfBoundsException" ({ cls := "java/lang/Throwable", name := "fillInStackTrace", desc := "()Ljava/lang/Throwable;" } : Jvm.MethodName) ({ cls := "java/lang/Throwable", name := "fillInStackTrace", desc := "()Ljava/lang/Throwable;" } : Jvm.MethodName)) ∈ lw_all := lw_g (lw_at lw_m3 89 rfl) rfl
theorem q874 : (Jvm.Cond.instantiable "java/lang/IndexOutOfBoundsException" (6 : Nat)) ∈ lw_all := lw_g (lw_at lw_m4 78 rfl) rfl
theorem q875 : (Jvm.Cond.castable "java/lang/IndexOutOfBoundsException" "java/lang/IndexOutOfBoundsException") ∈ lw_tbl := lw_at lw_m4 79 rfl
theorem q876 : (Jvm.Cond.selects "java/lang/IndexOutOfBoundsException" ({ cls := "java/lang/Throwable", name := "fillInStackTrace", desc := "(I)Ljava/lang/Throwable;" } : Jvm.MethodName) ({ cls := "java/lang/Throwable", name := "fillInStackTrace", desc := "(I)Ljava/lang/Throwable;" } : Jvm.MethodName)) ∈ lw_all := lw_g (lw_at lw_m4 80 rfl) rfl
theorem q877 : (Jvm.Cond.lays "java/lang/IndexOutOfBoundsException" "java/lang/Throwable" "cause" "Ljava/lang/Throwable;") ∈ lw_all := lw_g (lw_at lw_m4 81 rfl) rfl
theorem q878 : (Jvm.Cond.lays "java/lang/IndexOutOfBoundsException" "java/lang/Throwable" "stackTrace" "[Ljava/lang/StackTraceElement;") ∈ lw_all := lw_g (lw_at lw_m4 82 rfl) rfl
theorem q879 : (Jvm.Cond.lays "java/lang/IndexOutOfBoundsException" "java/lang/Throwable" "suppressedExceptions" "Ljava/util/List;") ∈ lw_all := lw_g (lw_at lw_m4 83 rfl) rfl
theorem q880 : (Jvm.Cond.lays "java/lang/IndexOutOfBoundsException" "java/lang/Throwable" "detailMessage" "Ljava/lang/String;") ∈ lw_all := lw_g (lw_at lw_m4 84 rfl) rfl
theorem q881 : (Jvm.Cond.lays "java/lang/IndexOutOfBoundsException" "java/lang/Throwable" "backtrace" "Ljava/lang/Object;") ∈ lw_all := lw_g (lw_at lw_m4 85 rfl) rfl
theorem q883 : (Jvm.Cond.instanceMethod ({ cls := "java/lang/IndexOutOfBoundsException", name := "<init>", desc := "(Ljava/lang/String;)V" } : Jvm.MethodName)) ∈ lw_all := lw_g (lw_at lw_m4 87 rfl) rfl
theorem q884 : (Jvm.Cond.code ({ cls := "java/lang/IndexOutOfBoundsException", name := "<init>", desc := "(Ljava/lang/String;)V" } : Jvm.MethodName) prog_22_method_2_code (2 : Nat) (Option.none : Option Jvm.ClassFile.FieldType)) ∈ lw_all := lw_g (lw_at lw_m4 88 rfl) rfl
theorem q885 : (Jvm.Cond.methodLink "java/lang/IndexOutOfBoundsException" (7 : Nat) ({ cls := "java/lang/RuntimeException", name := "<init>", desc := "(Ljava/lang/String;)V" } : Jvm.MethodName)) ∈ lw_all := lw_g (lw_at lw_m4 89 rfl) rfl
theorem q886 : (Jvm.Cond.lays "java/lang/IndexOutOfBoundsException" "java/lang/Throwable" "depth" "I") ∈ lw_all := lw_g (lw_at lw_m4 90 rfl) rfl
theorem q887 : (Jvm.Cond.superclass "java/lang/IndexOutOfBoundsException" "java/lang/RuntimeException") ∈ lw_all := lw_g (lw_at lw_m4 91 rfl) rfl
theorem q1197 : (Jvm.Cond.declares ({ cls := "java/lang/IndexOutOfBoundsException", name := "<init>", desc := "()V" } : Jvm.MethodName)) ∈ lw_tbl := lw_at lw_m5 161 rfl
theorem q1198 : (Jvm.Cond.declares ({ cls := "java/lang/IndexOutOfBoundsException", name := "<init>", desc := "(Ljava/lang/String;)V" } : Jvm.MethodName)) ∈ lw_tbl := lw_at lw_m5 162 rfl
theorem q1880 : (Jvm.Cond.castable "java/lang/IndexOutOfBoundsException" "java/lang/Object") ∈ lw_tbl := lw_at lw_m8 124 rfl
theorem in_J12 : ∀ w ∈ wsJ120, w ∈ lw_all := lw_in wsJ120 [877, 878, 879, 880, 881, 886] (by decide +kernel) (by decide +kernel)
theorem q98 : (Jvm.Cond.initialized "java/lang/ArrayIndexOutOfBoundsException") ∈ lw_all := lw_g (lw_at lw_m1 22 rfl) rfl
theorem q319 : (Jvm.Cond.selects "java/lang/ArrayIndexOutOfBoundsException" ({ cls := "java/lang/Object", name := "getClass", desc := "()Ljava/lang/Class;" } : Jvm.MethodName) ({ cls := "java/lang/Object", name := "getClass", desc := "()Ljava/lang/Class;" } : Jvm.MethodName)) ∈ lw_all := lw_g (lw_at lw_m2 3 rfl) rfl
theorem q643 : (Jvm.Cond.selects "java/lang/ArrayIndexOutOfBoundsException" ({ cls := "java/lang/Throwable", name := "fillInStackTrace", desc := "()Ljava/lang/Throwable;" } : Jvm.MethodName) ({ cls := "java/lang/Throwable", name := "fillInStackTrace", desc := "()Ljava/lang/Throwable;" } : Jvm.MethodName)) ∈ lw_all := lw_g (lw_at lw_m3 87 rfl) rfl
theorem q1185 : (Jvm.Cond.instantiable "java/lang/ArrayIndexOutOfBoundsException" (6 : Nat)) ∈ lw_all := lw_g (lw_at lw_m5 149 rfl) rfl
theorem q1186 : (Jvm.Cond.instanceMethod ({ cls := "java/lang/ArrayIndexOutOfBoundsException", name := "<init>", desc := "(Ljava/lang/String;)V" } : Jvm.MethodName)) ∈ lw_all := lw_g (lw_at lw_m5 150 rfl) rfl
theorem q1187 : (Jvm.Cond.code ({ cls := "java/lang/ArrayIndexOutOfBoundsException", name := "<init>", desc := "(Ljava/lang/String;)V" } : Jvm.MethodName) prog_15_method_2_code (2 : Nat) (Option.none : Option Jvm.ClassFile.FieldType)) ∈ lw_all := lw_g (lw_at lw_m5 151 rfl) rfl
theorem q1188 : (Jvm.Cond.methodLink "java/lang/ArrayIndexOutOfBoundsException" (7 : Nat) ({ cls := "java/lang/IndexOutOfBoundsException", name := "<init>", desc := "(Ljava/lang/String;)V" } : Jvm.MethodName)) ∈ lw_all := lw_g (lw_at lw_m5 152 rfl) rfl
theorem q1189 : (Jvm.Cond.lays "java/lang/ArrayIndexOutOfBoundsException" "java/lang/Throwable" "backtrace" "Ljava/lang/Object;") ∈ lw_all := lw_g (lw_at lw_m5 153 rfl) rfl
theorem q1190 : (Jvm.Cond.lays "java/lang/ArrayIndexOutOfBoundsException" "java/lang/Throwable" "detailMessage" "Ljava/lang/String;") ∈ lw_all := lw_g (lw_at lw_m5 154 rfl) rfl
theorem q1191 : (Jvm.Cond.lays "java/lang/ArrayIndexOutOfBoundsException" "java/lang/Throwable" "cause" "Ljava/lang/Throwable;") ∈ lw_all := lw_g (lw_at lw_m5 155 rfl) rfl
theorem q1192 : (Jvm.Cond.lays "java/lang/ArrayIndexOutOfBoundsException" "java/lang/Throwable" "stackTrace" "[Ljava/lang/StackTraceElement;") ∈ lw_all := lw_g (lw_at lw_m5 156 rfl) rfl
theorem q1193 : (Jvm.Cond.lays "java/lang/ArrayIndexOutOfBoundsException" "java/lang/Throwable" "depth" "I") ∈ lw_all := lw_g (lw_at lw_m5 157 rfl) rfl
theorem q1194 : (Jvm.Cond.lays "java/lang/ArrayIndexOutOfBoundsException" "java/lang/Throwable" "suppressedExceptions" "Ljava/util/List;") ∈ lw_all := lw_g (lw_at lw_m5 158 rfl) rfl
theorem q1195 : (Jvm.Cond.superclass "java/lang/ArrayIndexOutOfBoundsException" "java/lang/IndexOutOfBoundsException") ∈ lw_all := lw_g (lw_at lw_m5 159 rfl) rfl
theorem q1196 : (Jvm.Cond.castable "java/lang/ArrayIndexOutOfBoundsException" "java/lang/ArrayIndexOutOfBoundsException") ∈ lw_tbl := lw_at lw_m5 160 rfl
theorem q1199 : (Jvm.Cond.selects "java/lang/ArrayIndexOutOfBoundsException" ({ cls := "java/lang/Throwable", name := "fillInStackTrace", desc := "(I)Ljava/lang/Throwable;" } : Jvm.MethodName) ({ cls := "java/lang/Throwable", name := "fillInStackTrace", desc := "(I)Ljava/lang/Throwable;" } : Jvm.MethodName)) ∈ lw_all := lw_g (lw_at lw_m5 163 rfl) rfl
theorem q1869 : (Jvm.Cond.castable "java/lang/ArrayIndexOutOfBoundsException" "java/lang/IndexOutOfBoundsException") ∈ lw_tbl := lw_at lw_m8 113 rfl
theorem q1879 : (Jvm.Cond.castable "java/lang/ArrayIndexOutOfBoundsException" "java/lang/Object") ∈ lw_tbl := lw_at lw_m8 123 rfl
theorem in_J13 : ∀ w ∈ wsJ130, w ∈ lw_all := lw_in wsJ130 [1189, 1190, 1191, 1192, 1193, 1194] (by decide +kernel) (by decide +kernel)
theorem q99 : (Jvm.Cond.initialized "java/lang/String") ∈ lw_all := lw_g (lw_at lw_m1 23 rfl) rfl
theorem q323 : (Jvm.Cond.selects "java/lang/String" ({ cls := "java/lang/Object", name := "getClass", desc := "()Ljava/lang/Class;" } : Jvm.MethodName) ({ cls := "java/lang/Object", name := "getClass", desc := "()Ljava/lang/Class;" } : Jvm.MethodName)) ∈ lw_all := lw_g (lw_at lw_m2 7 rfl) rfl
theorem q475 : (Jvm.Cond.laysStatic "java/lang/String" "COMPACT_STRINGS" "Z") ∈ lw_tbl := lw_at lw_m2 159 rfl
theorem q485 : (Jvm.Cond.fieldLink "java/lang/String" (1048 : Nat) "java/lang/AbstractStringBuilder" "maybeLatin1" "Z") ∈ lw_all := lw_g (lw_at lw_m2 169 rfl) rfl
theorem q548 : (Jvm.Cond.static ({ cls := "java/lang/String", name := "checkBoundsOffCount", desc := "(III)I" } : Jvm.MethodName)) ∈ lw_all := lw_g (lw_at lw_m2 232 rfl) rfl
theorem q549 : (Jvm.Cond.code ({ cls := "java/lang/String", name := "checkBoundsOffCount", desc := "(III)I" } : Jvm.MethodName) prog_28_method_157_code (3 : Nat) (Option.some Jvm.ClassFile.FieldType.int)) ∈ lw_all := lw_g (lw_at lw_m2 233 rfl) rfl
theorem q550 : (Jvm.Cond.fieldLink "java/lang/String" (1053 : Nat) "jdk/internal/util/Preconditions" "SIOOBE_FORMATTER" "Ljava/util/function/BiFunction;") ∈ lw_all := lw_g (lw_at lw_m2 234 rfl) rfl
theorem q552 : (Jvm.Cond.methodLink "java/lang/String" (1065 : Nat) ({ cls := "jdk/internal/util/Preconditions", name := "checkFromIndexSize", desc := "(IIILjava/util/function/BiFunction;)I" } : Jvm.MethodName)) ∈ lw_all := lw_g (lw_at lw_m2 236 rfl) rfl
theorem q571 : (Jvm.Cond.static ({ cls := "java/lang/String", name := "checkIndex", desc := "(II)V" } : Jvm.MethodName)) ∈ lw_all := lw_g (lw_at lw_m3 15 rfl) rfl
theorem q572 : (Jvm.Cond.code ({ cls := "java/lang/String", name := "checkIndex", desc := "(II)V" } : Jvm.MethodName) prog_28_method_155_code (2 : Nat) (Option.none : Option Jvm.ClassFile.FieldType)) ∈ lw_all := lw_g (lw_at lw_m3 16 rfl) rfl
theorem q573 : (Jvm.Cond.methodLink "java/lang/String" (1059 : Nat) ({ cls := "jdk/internal/util/Preconditions", name := "checkIndex", desc := "(IILjava/util/function/BiFunction;)I" } : Jvm.MethodName)) ∈ lw_all := lw_g (lw_at lw_m3 17 rfl) rfl
theorem q579 : (Jvm.Cond.instantiable "java/lang/String" (4 : Nat)) ∈ lw_all := lw_g (lw_at lw_m3 23 rfl) rfl
theorem q581 : (Jvm.Cond.instanceMethod ({ cls := "java/lang/String", name := "<init>", desc := "(Ljava/lang/StringBuilder;)V" } : Jvm.MethodName)) ∈ lw_all := lw_g (lw_at lw_m3 25 rfl) rfl
theorem q582 : (Jvm.Cond.code ({ cls := "java/lang/String", name := "<init>", desc := "(Ljava/lang/StringBuilder;)V" } : Jvm.MethodName) prog_28_method_53_code (2 : Nat) (Option.none : Option Jvm.ClassFile.FieldType)) ∈ lw_all := lw_g (lw_at lw_m3 26 rfl) rfl
theorem q583 : (Jvm.Cond.methodLink "java/lang/String" (489 : Nat) ({ cls := "java/lang/String", name := "<init>", desc := "(Ljava/lang/AbstractStringBuilder;Ljava/lang/Void;)V" } : Jvm.MethodName)) ∈ lw_all := lw_g (lw_at lw_m3 27 rfl) rfl
theorem q584 : (Jvm.Cond.instanceMethod ({ cls := "java/lang/String", name := "<init>", desc := "(Ljava/lang/AbstractStringBuilder;Ljava/lang/Void;)V" } : Jvm.MethodName)) ∈ lw_all := lw_g (lw_at lw_m3 28 rfl) rfl
theorem q585 : (Jvm.Cond.code ({ cls := "java/lang/String", name := "<init>", desc := "(Ljava/lang/AbstractStringBuilder;Ljava/lang/Void;)V" } : Jvm.MethodName) prog_28_method_150_code (5 : Nat) (Option.none : Option Jvm.ClassFile.FieldType)) ∈ lw_all := lw_g (lw_at lw_m3 29 rfl) rfl
theorem q586 : (Jvm.Cond.methodLink "java/lang/String" (1 : Nat) ({ cls := "java/lang/Object", name := "<init>", desc := "()V" } : Jvm.MethodName)) ∈ lw_all := lw_g (lw_at lw_m3 30 rfl) rfl
theorem q587 : (Jvm.Cond.methodLink "java/lang/String" (552 : Nat) ({ cls := "java/lang/AbstractStringBuilder", name := "getValue", desc := "()[B" } : Jvm.MethodName)) ∈ lw_all := lw_g (lw_at lw_m3 31 rfl) rfl
theorem q592 : (Jvm.Cond.methodLink "java/lang/String" (549 : Nat) ({ cls := "java/lang/AbstractStringBuilder", name := "length", desc := "()I" } : Jvm.MethodName)) ∈ lw_all := lw_g (lw_at lw_m3 36 rfl) rfl
theorem q600 : (Jvm.Cond.methodLink "java/lang/String" (1047 : Nat) ({ cls := "java/lang/AbstractStringBuilder", name := "isLatin1", desc := "()Z" } : Jvm.MethodName)) ∈ lw_all := lw_g (lw_at lw_m3 44 rfl) rfl
theorem q601 : (Jvm.Cond.methodLink "java/lang/String" (54 : Nat) ({ cls := "java/util/Arrays", name := "copyOfRange", desc := "([BII)[B" } : Jvm.MethodName)) ∈ lw_all := lw_g (lw_at lw_m3 45 rfl) rfl
theorem q678 : (Jvm.Cond.static ({ cls := "java/lang/String", name := "checkBoundsBeginEnd", desc := "(III)V" } : Jvm.MethodName)) ∈ lw_all := lw_g (lw_at lw_m3 122 rfl) rfl
theorem q679 : (Jvm.Cond.code ({ cls := "java/lang/String", name := "checkBoundsBeginEnd", desc := "(III)V" } : Jvm.MethodName) prog_28_method_158_code (3 : Nat) (Option.none : Option Jvm.ClassFile.FieldType)) ∈ lw_all := lw_g (lw_at lw_m3 123 rfl) rfl
theorem q680 : (Jvm.Cond.methodLink "java/lang/String" (1062 : Nat) ({ cls := "jdk/internal/util/Preconditions", name := "checkFromToIndex", desc := "(IIILjava/util/function/BiFunction;)I" } : Jvm.MethodName)) ∈ lw_all := lw_g (lw_at lw_m3 124 rfl) rfl
theorem q704 : (Jvm.Cond.instanceMethod ({ cls := "java/lang/String", name := "length", desc := "()I" } : Jvm.MethodName)) ∈ lw_all := lw_g (lw_at lw_m3 148 rfl) rfl
theorem q705 : (Jvm.Cond.selects "java/lang/String" ({ cls := "java/lang/String", name := "length", desc := "()I" } : Jvm.MethodName) ({ cls := "java/lang/String", name := "length", desc := "()I" } : Jvm.MethodName)) ∈ lw_all := lw_g (lw_at lw_m3 149 rfl) rfl
theorem q706 : (Jvm.Cond.code ({ cls := "java/lang/String", name := "length", desc := "()I" } : Jvm.MethodName) prog_28_method_54_code (1 : Nat) (Option.some Jvm.ClassFile.FieldType.int)) ∈ lw_all := lw_g (lw_at lw_m3 150 rfl) rfl
theorem q707 : (Jvm.Cond.methodLink "java/lang/String" (335 : Nat) ({ cls := "java/lang/String", name := "coder", desc := "()B" } : Jvm.MethodName)) ∈ lw_all := lw_g (lw_at lw_m3 151 rfl) rfl
theorem q708 : (Jvm.Cond.instanceMethod ({ cls := "java/lang/String", name := "coder", desc := "()B" } : Jvm.MethodName)) ∈ lw_all := lw_g (lw_at lw_m3 152 rfl) rfl
theorem q709 : (Jvm.Cond.selects "java/lang/String" ({ cls := "java/lang/String", name := "coder", desc := "()B" } : Jvm.MethodName) ({ cls := "java/lang/String", name := "coder", desc := "()B" } : Jvm.MethodName)) ∈ lw_all := lw_g (lw_at lw_m3 153 rfl) rfl
theorem q710 : (Jvm.Cond.code ({ cls := "java/lang/String", name := "coder", desc := "()B" } : Jvm.MethodName) prog_28_method_152_code (1 : Nat) (Option.some Jvm.ClassFile.FieldType.byte)) ∈ lw_all := lw_g (lw_at lw_m3 154 rfl) rfl
theorem q711 : (Jvm.Cond.fieldLink "java/lang/String" (38 : Nat) "java/lang/String" "COMPACT_STRINGS" "Z") ∈ lw_all := lw_g (lw_at lw_m3 155 rfl) rfl
theorem q722 : (Jvm.Cond.instanceMethod ({ cls := "java/lang/String", name := "getBytes", desc := "([BIB)V" } : Jvm.MethodName)) ∈ lw_all := lw_g (lw_at lw_m3 166 rfl) rfl
theorem q723 : (Jvm.Cond.selects "java/lang/String" ({ cls := "java/lang/String", name := "getBytes", desc := "([BIB)V" } : Jvm.MethodName) ({ cls := "java/lang/String", name := "getBytes", desc := "([BIB)V" } : Jvm.MethodName)) ∈ lw_all := lw_g (lw_at lw_m3 167 rfl) rfl
theorem q724 : (Jvm.Cond.code ({ cls := "java/lang/String", name := "getBytes", desc := "([BIB)V" } : Jvm.MethodName) prog_28_method_147_code (4 : Nat) (Option.none : Option Jvm.ClassFile.FieldType)) ∈ lw_all := lw_g (lw_at lw_m3 168 rfl) rfl
theorem q725 : (Jvm.Cond.methodLink "java/lang/String" (212 : Nat) ({ cls := "java/lang/System", name := "arraycopy", desc := "(Ljava/lang/Object;ILjava/lang/Object;II)V" } : Jvm.MethodName)) ∈ lw_all := lw_g (lw_at lw_m3 169 rfl) rfl
theorem q726 : (Jvm.Cond.methodLink "java/lang/String" (106 : Nat) ({ cls := "java/lang/StringLatin1", name := "inflate", desc := "([BI[BII)V" } : Jvm.MethodName)) ∈ lw_all := lw_g (lw_at lw_m3 170 rfl) rfl
theorem q753 : (Jvm.Cond.methodLink "java/lang/String" (1051 : Nat) ({ cls := "java/lang/StringUTF16", name := "compress", desc := "([BII)[B" } : Jvm.MethodName)) ∈ lw_all := lw_g (lw_at lw_m3 197 rfl) rfl
theorem q763 : (Jvm.Cond.methodLink "java/lang/String" (47 : Nat) ({ cls := "java/lang/StringUTF16", name := "coderFromArrayLen", desc := "([BI)B" } : Jvm.MethodName)) ∈ lw_all := lw_g (lw_at lw_m3 207 rfl) rfl
theorem q766 : (Jvm.Cond.fieldLink "java/lang/String" (9 : Nat) "java/lang/String" "value" "[B") ∈ lw_all := lw_g (lw_at lw_m3 210 rfl) rfl
theorem q767 : (Jvm.Cond.fieldLink "java/lang/String" (15 : Nat) "java/lang/String" "coder" "B") ∈ lw_all := lw_g (lw_at lw_m3 211 rfl) rfl
theorem q768 : (Jvm.Cond.fieldLink "java/lang/String" (19 : Nat) "java/lang/String" "hash" "I") ∈ lw_all := lw_g (lw_at lw_m3 212 rfl) rfl
theorem q769 : (Jvm.Cond.fieldLink "java/lang/String" (23 : Nat) "java/lang/String" "hashIsZero" "Z") ∈ lw_all := lw_g (lw_at lw_m3 213 rfl) rfl
theorem q770 : (Jvm.Cond.laysFinal "java/lang/String" "java/lang/String" "value" "[B") ∈ lw_all := lw_g (lw_at lw_m3 214 rfl) rfl
theorem q771 : (Jvm.Cond.soleField "java/lang/String" "value") ∈ lw_all := lw_g (lw_at lw_m3 215 rfl) rfl
theorem q772 : (Jvm.Cond.laysFinal "java/lang/String" "java/lang/String" "coder" "B") ∈ lw_all := lw_g (lw_at lw_m3 216 rfl) rfl
theorem q773 : (Jvm.Cond.soleField "java/lang/String" "coder") ∈ lw_all := lw_g (lw_at lw_m3 217 rfl) rfl
theorem q774 : (Jvm.Cond.lays "java/lang/String" "java/lang/String" "hash" "I") ∈ lw_all := lw_g (lw_at lw_m3 218 rfl) rfl
theorem q775 : (Jvm.Cond.soleField "java/lang/String" "hash") ∈ lw_all := lw_g (lw_at lw_m3 219 rfl) rfl
theorem q776 : (Jvm.Cond.lays "java/lang/String" "java/lang/String" "hashIsZero" "Z") ∈ lw_all := lw_g (lw_at lw_m3 220 rfl) rfl
theorem q777 : (Jvm.Cond.soleField "java/lang/String" "hashIsZero") ∈ lw_all := lw_g (lw_at lw_m3 221 rfl) rfl
theorem q778 : (Jvm.Cond.superclass "java/lang/String" "java/lang/Object") ∈ lw_all := lw_g (lw_at lw_m3 222 rfl) rfl
theorem q783 : (Jvm.Cond.instanceMethod ({ cls := "java/lang/String", name := "hashCode", desc := "()I" } : Jvm.MethodName)) ∈ lw_all := lw_g (lw_at lw_m3 227 rfl) rfl
theorem q784 : (Jvm.Cond.selects "java/lang/String" ({ cls := "java/lang/String", name := "hashCode", desc := "()I" } : Jvm.MethodName) ({ cls := "java/lang/String", name := "hashCode", desc := "()I" } : Jvm.MethodName)) ∈ lw_all := lw_g (lw_at lw_m3 228 rfl) rfl
theorem q785 : (Jvm.Cond.code ({ cls := "java/lang/String", name := "hashCode", desc := "()I" } : Jvm.MethodName) prog_28_method_78_code (2 : Nat) (Option.some Jvm.ClassFile.FieldType.int)) ∈ lw_all := lw_g (lw_at lw_m3 229 rfl) rfl
theorem q786 : (Jvm.Cond.methodLink "java/lang/String" (492 : Nat) ({ cls := "java/lang/String", name := "isLatin1", desc := "()Z" } : Jvm.MethodName)) ∈ lw_all := lw_g (lw_at lw_m3 230 rfl) rfl
theorem q787 : (Jvm.Cond.instanceMethod ({ cls := "java/lang/String", name := "isLatin1", desc := "()Z" } : Jvm.MethodName)) ∈ lw_all := lw_g (lw_at lw_m3 231 rfl) rfl
theorem q788 : (Jvm.Cond.selects "java/lang/String" ({ cls := "java/lang/String", name := "isLatin1", desc := "()Z" } : Jvm.MethodName) ({ cls := "java/lang/String", name := "isLatin1", desc := "()Z" } : Jvm.MethodName)) ∈ lw_all := lw_g (lw_at lw_m3 232 rfl) rfl
theorem q789 : (Jvm.Cond.code ({ cls := "java/lang/String", name := "isLatin1", desc := "()Z" } : Jvm.MethodName) prog_28_method_154_code (1 : Nat) (Option.some Jvm.ClassFile.FieldType.boolean)) ∈ lw_all := lw_g (lw_at lw_m3 233 rfl) rfl
theorem q790 : (Jvm.Cond.methodLink "java/lang/String" (628 : Nat) ({ cls := "java/lang/StringLatin1", name := "hashCode", desc := "([B)I" } : Jvm.MethodName)) ∈ lw_all := lw_g (lw_at lw_m3 234 rfl) rfl
theorem q839 : (Jvm.Cond.methodLink "java/lang/String" (632 : Nat) ({ cls := "java/lang/StringUTF16", name := "hashCode", desc := "([B)I" } : Jvm.MethodName)) ∈ lw_all := lw_g (lw_at lw_m4 43 rfl) rfl
theorem q845 : (Jvm.Cond.instanceMethod ({ cls := "java/lang/String", name := "equals", desc := "(Ljava/lang/Object;)Z" } : Jvm.MethodName)) ∈ lw_all := lw_g (lw_at lw_m4 49 rfl) rfl
theorem q846 : (Jvm.Cond.selects "java/lang/String" ({ cls := "java/lang/String", name := "equals", desc := "(Ljava/lang/Object;)Z" } : Jvm.MethodName) ({ cls := "java/lang/String", name := "equals", desc := "(Ljava/lang/Object;)Z" } : Jvm.MethodName)) ∈ lw_all := lw_g (lw_at lw_m4 50 rfl) rfl
theorem q847 : (Jvm.Cond.code ({ cls := "java/lang/String", name := "equals", desc := "(Ljava/lang/Object;)Z" } : Jvm.MethodName) prog_28_method_66_code (3 : Nat) (Option.some Jvm.ClassFile.FieldType.boolean)) ∈ lw_all := lw_g (lw_at lw_m4 51 rfl) rfl
theorem q848 : (Jvm.Cond.classLink "java/lang/String" (10 : Nat) "java/lang/String") ∈ lw_all := lw_g (lw_at lw_m4 52 rfl) rfl
theorem q849 : (Jvm.Cond.methodLink "java/lang/String" (541 : Nat) ({ cls := "java/lang/StringLatin1", name := "equals", desc := "([B[B)Z" } : Jvm.MethodName)) ∈ lw_all := lw_g (lw_at lw_m4 53 rfl) rfl
theorem q1884 : (Jvm.Cond.castable "java/lang/String" "java/lang/Object") ∈ lw_tbl := lw_at lw_m8 128 rfl
theorem in_J14 : ∀ w ∈ wsJ140, w ∈ lw_all := lw_in wsJ140 [770, 772, 774, 776] (by decide +kernel) (by decide +kernel)
theorem q100 : (Jvm.Cond.initialized "java/lang/IllegalStateException") ∈ lw_all := lw_g (lw_at lw_m1 24 rfl) rfl
theorem q321 : (Jvm.Cond.selects "java/lang/IllegalStateException" ({ cls := "java/lang/Object", name := "getClass", desc := "()Ljava/lang/Class;" } : Jvm.MethodName) ({ cls := "java/lang/Object", name := "getClass", desc := "()Ljava/lang/Class;" } : Jvm.MethodName)) ∈ lw_all := lw_g (lw_at lw_m2 5 rfl) rfl
theorem q644 : (Jvm.Cond.selects "java/lang/IllegalStateException" ({ cls := "java/lang/Throwable", name := "fillInStackTrace", desc := "()Ljava/lang/Throwable;" } : Jvm.MethodName) ({ cls := "java/lang/Throwable", name := "fillInStackTrace", desc := "()Ljava/lang/Throwable;" } : Jvm.MethodName)) ∈ lw_all := lw_g (lw_at lw_m3 88 rfl) rfl
theorem q900 : (Jvm.Cond.instantiable "java/lang/IllegalStateException" (6 : Nat)) ∈ lw_all := lw_g (lw_at lw_m4 104 rfl) rfl
theorem q901 : (Jvm.Cond.castable "java/lang/IllegalStateException" "java/lang/IllegalStateException") ∈ lw_tbl := lw_at lw_m4 105 rfl
theorem q902 : (Jvm.Cond.selects "java/lang/IllegalStateException" ({ cls := "java/lang/Throwable", name := "fillInStackTrace", desc := "(I)Ljava/lang/Throwable;" } : Jvm.MethodName) ({ cls := "java/lang/Throwable", name := "fillInStackTrace", desc := "(I)Ljava/lang/Throwable;" } : Jvm.MethodName)) ∈ lw_all := lw_g (lw_at lw_m4 106 rfl) rfl
theorem q903 : (Jvm.Cond.lays "java/lang/IllegalStateException" "java/lang/Throwable" "cause" "Ljava/lang/Throwable;") ∈ lw_all := lw_g (lw_at lw_m4 107 rfl) rfl
theorem q904 : (Jvm.Cond.lays "java/lang/IllegalStateException" "java/lang/Throwable" "stackTrace" "[Ljava/lang/StackTraceElement;") ∈ lw_all := lw_g (lw_at lw_m4 108 rfl) rfl
theorem q905 : (Jvm.Cond.lays "java/lang/IllegalStateException" "java/lang/Throwable" "suppressedExceptions" "Ljava/util/List;") ∈ lw_all := lw_g (lw_at lw_m4 109 rfl) rfl
theorem q906 : (Jvm.Cond.lays "java/lang/IllegalStateException" "java/lang/Throwable" "detailMessage" "Ljava/lang/String;") ∈ lw_all := lw_g (lw_at lw_m4 110 rfl) rfl
theorem q907 : (Jvm.Cond.lays "java/lang/IllegalStateException" "java/lang/Throwable" "backtrace" "Ljava/lang/Object;") ∈ lw_all := lw_g (lw_at lw_m4 111 rfl) rfl
theorem q909 : (Jvm.Cond.instanceMethod ({ cls := "java/lang/IllegalStateException", name := "<init>", desc := "(Ljava/lang/String;)V" } : Jvm.MethodName)) ∈ lw_all := lw_g (lw_at lw_m4 113 rfl) rfl
theorem q910 : (Jvm.Cond.code ({ cls := "java/lang/IllegalStateException", name := "<init>", desc := "(Ljava/lang/String;)V" } : Jvm.MethodName) prog_21_method_2_code (2 : Nat) (Option.none : Option Jvm.ClassFile.FieldType)) ∈ lw_all := lw_g (lw_at lw_m4 114 rfl) rfl
theorem q911 : (Jvm.Cond.methodLink "java/lang/IllegalStateException" (7 : Nat) ({ cls := "java/lang/RuntimeException", name := "<init>", desc := "(Ljava/lang/String;)V" } : Jvm.MethodName)) ∈ lw_all := lw_g (lw_at lw_m4 115 rfl) rfl
theorem q912 : (Jvm.Cond.lays "java/lang/IllegalStateException" "java/lang/Throwable" "depth" "I") ∈ lw_all := lw_g (lw_at lw_m4 116 rfl) rfl
theorem q913 : (Jvm.Cond.superclass "java/lang/IllegalStateException" "java/lang/RuntimeException") ∈ lw_all := lw_g (lw_at lw_m4 117 rfl) rfl
theorem q1881 : (Jvm.Cond.castable "java/lang/IllegalStateException" "java/lang/Object") ∈ lw_tbl := lw_at lw_m8 125 rfl
theorem in_J15 : ∀ w ∈ wsJ150, w ∈ lw_all := lw_in wsJ150 [903, 904, 905, 906, 907, 912] (by decide +kernel) (by decide +kernel)
theorem q101 : (Jvm.Cond.initialized "BridgeAuction$Ranked") ∈ lw_all := lw_g (lw_at lw_m1 25 rfl) rfl
theorem q1086 : (Jvm.Cond.declares ({ cls := "BridgeAuction$Ranked", name := "comesBefore", desc := "(LBridgeAuction$Ranked;)Z" } : Jvm.MethodName)) ∈ lw_tbl := lw_at lw_m5 50 rfl
theorem q1088 : (Jvm.Cond.instanceMethod ({ cls := "BridgeAuction$Ranked", name := "comesBefore", desc := "(LBridgeAuction$Ranked;)Z" } : Jvm.MethodName)) ∈ lw_all := lw_g (lw_at lw_m5 52 rfl) rfl
theorem q1089 : (Jvm.Cond.publicMethod ({ cls := "BridgeAuction$Ranked", name := "comesBefore", desc := "(LBridgeAuction$Ranked;)Z" } : Jvm.MethodName)) ∈ lw_tbl := lw_at lw_m5 53 rfl
theorem q1090 : (Jvm.Cond.code ({ cls := "BridgeAuction$Ranked", name := "comesBefore", desc := "(LBridgeAuction$Ranked;)Z" } : Jvm.MethodName) prog_7_method_5_code (2 : Nat) (Option.some Jvm.ClassFile.FieldType.boolean)) ∈ lw_all := lw_g (lw_at lw_m5 54 rfl) rfl
theorem q1091 : (Jvm.Cond.methodLink "BridgeAuction$Ranked" (13 : Nat) ({ cls := "BridgeAuction$Ranked", name := "compare", desc := "(LBridgeAuction$Ranked;LBridgeAuction$Ranked;)I" } : Jvm.MethodName)) ∈ lw_all := lw_g (lw_at lw_m5 55 rfl) rfl
theorem q1092 : (Jvm.Cond.static ({ cls := "BridgeAuction$Ranked", name := "compare", desc := "(LBridgeAuction$Ranked;LBridgeAuction$Ranked;)I" } : Jvm.MethodName)) ∈ lw_all := lw_g (lw_at lw_m5 56 rfl) rfl
theorem q1093 : (Jvm.Cond.code ({ cls := "BridgeAuction$Ranked", name := "compare", desc := "(LBridgeAuction$Ranked;LBridgeAuction$Ranked;)I" } : Jvm.MethodName) prog_7_method_4_code (2 : Nat) (Option.some Jvm.ClassFile.FieldType.int)) ∈ lw_all := lw_g (lw_at lw_m5 57 rfl) rfl
theorem q1094 : (Jvm.Cond.interfaceEntry "BridgeAuction$Ranked" (1 : Nat)) ∈ lw_tbl := lw_at lw_m5 58 rfl
theorem q1095 : (Jvm.Cond.methodLink "BridgeAuction$Ranked" (1 : Nat) ({ cls := "BridgeAuction$Ranked", name := "root", desc := "()I" } : Jvm.MethodName)) ∈ lw_all := lw_g (lw_at lw_m5 59 rfl) rfl
theorem q1096 : (Jvm.Cond.interfaceMethod "BridgeAuction$Ranked" "BridgeAuction$Ranked" "root" "()I") ∈ lw_tbl := lw_at lw_m5 60 rfl
theorem q1097 : (Jvm.Cond.declares ({ cls := "BridgeAuction$Ranked", name := "root", desc := "()I" } : Jvm.MethodName)) ∈ lw_tbl := lw_at lw_m5 61 rfl
theorem q1110 : (Jvm.Cond.interfaceEntry "BridgeAuction$Ranked" (7 : Nat)) ∈ lw_tbl := lw_at lw_m5 74 rfl
theorem q1111 : (Jvm.Cond.methodLink "BridgeAuction$Ranked" (7 : Nat) ({ cls := "BridgeAuction$Ranked", name := "cost", desc := "()I" } : Jvm.MethodName)) ∈ lw_all := lw_g (lw_at lw_m5 75 rfl) rfl
theorem q1112 : (Jvm.Cond.interfaceMethod "BridgeAuction$Ranked" "BridgeAuction$Ranked" "cost" "()I") ∈ lw_tbl := lw_at lw_m5 76 rfl
theorem q1113 : (Jvm.Cond.declares ({ cls := "BridgeAuction$Ranked", name := "cost", desc := "()I" } : Jvm.MethodName)) ∈ lw_tbl := lw_at lw_m5 77 rfl
theorem q1124 : (Jvm.Cond.interfaceEntry "BridgeAuction$Ranked" (10 : Nat)) ∈ lw_tbl := lw_at lw_m5 88 rfl
theorem q1125 : (Jvm.Cond.methodLink "BridgeAuction$Ranked" (10 : Nat) ({ cls := "BridgeAuction$Ranked", name := "teller", desc := "()I" } : Jvm.MethodName)) ∈ lw_all := lw_g (lw_at lw_m5 89 rfl) rfl
theorem q1126 : (Jvm.Cond.interfaceMethod "BridgeAuction$Ranked" "BridgeAuction$Ranked" "teller" "()I") ∈ lw_tbl := lw_at lw_m5 90 rfl
theorem q1127 : (Jvm.Cond.declares ({ cls := "BridgeAuction$Ranked", name := "teller", desc := "()I" } : Jvm.MethodName)) ∈ lw_tbl := lw_at lw_m5 91 rfl
theorem q102 : (Jvm.Cond.initialized "BridgeAuction$Reader") ∈ lw_all := lw_g (lw_at lw_m1 26 rfl) rfl
theorem q316 : (Jvm.Cond.selects "BridgeAuction$Reader" ({ cls := "java/lang/Object", name := "getClass", desc := "()Ljava/lang/Class;" } : Jvm.MethodName) ({ cls := "java/lang/Object", name := "getClass", desc := "()Ljava/lang/Class;" } : Jvm.MethodName)) ∈ lw_all := lw_g (lw_at lw_m2 0 rfl) rfl
theorem q348 : (Jvm.Cond.fieldLinkNest "BridgeAuction$Reader" (29 : Nat) "BridgeAuction" "script" "[B" "BridgeAuction") ∈ lw_tbl := lw_at lw_m2 32 rfl
theorem q350 : (Jvm.Cond.fieldLinkNest "BridgeAuction$Reader" (26 : Nat) "BridgeAuction" "scriptLength" "I" "BridgeAuction") ∈ lw_tbl := lw_at lw_m2 34 rfl
theorem q422 : (Jvm.Cond.instantiable "BridgeAuction$Reader" (5 : Nat)) ∈ lw_all := lw_g (lw_at lw_m2 106 rfl) rfl
theorem q424 : (Jvm.Cond.instanceMethod ({ cls := "BridgeAuction$Reader", name := "<init>", desc := "(LBridgeAuction;)V" } : Jvm.MethodName)) ∈ lw_all := lw_g (lw_at lw_m2 108 rfl) rfl
theorem q425 : (Jvm.Cond.code ({ cls := "BridgeAuction$Reader", name := "<init>", desc := "(LBridgeAuction;)V" } : Jvm.MethodName) prog_8_method_1_code (2 : Nat) (Option.none : Option Jvm.ClassFile.FieldType)) ∈ lw_all := lw_g (lw_at lw_m2 109 rfl) rfl
theorem q426 : (Jvm.Cond.methodLink "BridgeAuction$Reader" (9 : Nat) ({ cls := "java/lang/Object", name := "<init>", desc := "()V" } : Jvm.MethodName)) ∈ lw_all := lw_g (lw_at lw_m2 110 rfl) rfl
theorem q427 : (Jvm.Cond.fieldLink "BridgeAuction$Reader" (23 : Nat) "BridgeAuction$Reader" "at" "I") ∈ lw_all := lw_g (lw_at lw_m2 111 rfl) rfl
theorem q428 : (Jvm.Cond.fieldLink "BridgeAuction$Reader" (15 : Nat) "BridgeAuction$Reader" "fault" "I") ∈ lw_all := lw_g (lw_at lw_m2 112 rfl) rfl
theorem q430 : (Jvm.Cond.fieldLink "BridgeAuction$Reader" (63 : Nat) "BridgeAuction$Reader" "command" "LBridgeAuction$Command;") ∈ lw_all := lw_g (lw_at lw_m2 114 rfl) rfl
theorem q432 : (Jvm.Cond.fieldLink "BridgeAuction$Reader" (19 : Nat) "BridgeAuction$Reader" "numbers" "[I") ∈ lw_all := lw_g (lw_at lw_m2 116 rfl) rfl
theorem q434 : (Jvm.Cond.fieldLink "BridgeAuction$Reader" (3 : Nat) "BridgeAuction$Reader" "this$0" "LBridgeAuction;") ∈ lw_all := lw_g (lw_at lw_m2 118 rfl) rfl
theorem q435 : (Jvm.Cond.lays "BridgeAuction$Reader" "BridgeAuction$Reader" "at" "I") ∈ lw_all := lw_g (lw_at lw_m2 119 rfl) rfl
theorem q436 : (Jvm.Cond.soleField "BridgeAuction$Reader" "at") ∈ lw_all := lw_g (lw_at lw_m2 120 rfl) rfl
theorem q437 : (Jvm.Cond.lays "BridgeAuction$Reader" "BridgeAuction$Reader" "fault" "I") ∈ lw_all := lw_g (lw_at lw_m2 121 rfl) rfl
theorem q438 : (Jvm.Cond.soleField "BridgeAuction$Reader" "fault") ∈ lw_all := lw_g (lw_at lw_m2 122 rfl) rfl
theorem q439 : (Jvm.Cond.lays "BridgeAuction$Reader" "BridgeAuction$Reader" "command" "LBridgeAuction$Command;") ∈ lw_all := lw_g (lw_at lw_m2 123 rfl) rfl
theorem q440 : (Jvm.Cond.soleField "BridgeAuction$Reader" "command") ∈ lw_all := lw_g (lw_at lw_m2 124 rfl) rfl
theorem q441 : (Jvm.Cond.laysFinal "BridgeAuction$Reader" "BridgeAuction$Reader" "numbers" "[I") ∈ lw_all := lw_g (lw_at lw_m2 125 rfl) rfl
theorem q442 : (Jvm.Cond.soleField "BridgeAuction$Reader" "numbers") ∈ lw_all := lw_g (lw_at lw_m2 126 rfl) rfl
theorem q443 : (Jvm.Cond.laysFinal "BridgeAuction$Reader" "BridgeAuction$Reader" "this$0" "LBridgeAuction;") ∈ lw_all := lw_g (lw_at lw_m2 127 rfl) rfl
theorem q444 : (Jvm.Cond.soleField "BridgeAuction$Reader" "this$0") ∈ lw_all := lw_g (lw_at lw_m2 128 rfl) rfl
theorem q445 : (Jvm.Cond.superclass "BridgeAuction$Reader" "java/lang/Object") ∈ lw_all := lw_g (lw_at lw_m2 129 rfl) rfl
theorem q447 : (Jvm.Cond.instanceMethod ({ cls := "BridgeAuction$Reader", name := "next", desc := "()Z" } : Jvm.MethodName)) ∈ lw_all := lw_g (lw_at lw_m2 131 rfl) rfl
theorem q448 : (Jvm.Cond.selects "BridgeAuction$Reader" ({ cls := "BridgeAuction$Reader", name := "next", desc := "()Z" } : Jvm.MethodName) ({ cls := "BridgeAuction$Reader", name := "next", desc := "()Z" } : Jvm.MethodName)) ∈ lw_all := lw_g (lw_at lw_m2 132 rfl) rfl
theorem q449 : (Jvm.Cond.code ({ cls := "BridgeAuction$Reader", name := "next", desc := "()Z" } : Jvm.MethodName) prog_8_method_4_code (2 : Nat) (Option.some Jvm.ClassFile.FieldType.boolean)) ∈ lw_all := lw_g (lw_at lw_m2 133 rfl) rfl
theorem q450 : (Jvm.Cond.methodLink "BridgeAuction$Reader" (41 : Nat) ({ cls := "BridgeAuction$Reader", name := "spaces", desc := "()Z" } : Jvm.MethodName)) ∈ lw_all := lw_g (lw_at lw_m2 134 rfl) rfl
theorem q451 : (Jvm.Cond.privateMethod ({ cls := "BridgeAuction$Reader", name := "spaces", desc := "()Z" } : Jvm.MethodName)) ∈ lw_tbl := lw_at lw_m2 135 rfl
theorem q452 : (Jvm.Cond.instanceMethod ({ cls := "BridgeAuction$Reader", name := "spaces", desc := "()Z" } : Jvm.MethodName)) ∈ lw_all := lw_g (lw_at lw_m2 136 rfl) rfl
theorem q453 : (Jvm.Cond.code ({ cls := "BridgeAuction$Reader", name := "spaces", desc := "()Z" } : Jvm.MethodName) prog_8_method_3_code (2 : Nat) (Option.some Jvm.ClassFile.FieldType.boolean)) ∈ lw_all := lw_g (lw_at lw_m2 137 rfl) rfl
theorem q454 : (Jvm.Cond.methodLink "BridgeAuction$Reader" (37 : Nat) ({ cls := "BridgeAuction$Reader", name := "isAt", desc := "(II)Z" } : Jvm.MethodName)) ∈ lw_all := lw_g (lw_at lw_m2 138 rfl) rfl
theorem q455 : (Jvm.Cond.privateMethod ({ cls := "BridgeAuction$Reader", name := "isAt", desc := "(II)Z" } : Jvm.MethodName)) ∈ lw_tbl := lw_at lw_m2 139 rfl
theorem q456 : (Jvm.Cond.instanceMethod ({ cls := "BridgeAuction$Reader", name := "isAt", desc := "(II)Z" } : Jvm.MethodName)) ∈ lw_all := lw_g (lw_at lw_m2 140 rfl) rfl
theorem q457 : (Jvm.Cond.code ({ cls := "BridgeAuction$Reader", name := "isAt", desc := "(II)Z" } : Jvm.MethodName) prog_8_method_2_code (3 : Nat) (Option.some Jvm.ClassFile.FieldType.boolean)) ∈ lw_all := lw_g (lw_at lw_m2 141 rfl) rfl
theorem q458 : (Jvm.Cond.methodLinkNest "BridgeAuction$Reader" (33 : Nat) ({ cls := "BridgeAuction", name := "inRange", desc := "(JJJ)Z" } : Jvm.MethodName) "BridgeAuction") ∈ lw_tbl := lw_at lw_m2 142 rfl
theorem q461 : (Jvm.Cond.methodLink "BridgeAuction$Reader" (45 : Nat) ({ cls := "BridgeAuction$Reader", name := "readCommand", desc := "()Z" } : Jvm.MethodName)) ∈ lw_all := lw_g (lw_at lw_m2 145 rfl) rfl
theorem q462 : (Jvm.Cond.privateMethod ({ cls := "BridgeAuction$Reader", name := "readCommand", desc := "()Z" } : Jvm.MethodName)) ∈ lw_tbl := lw_at lw_m2 146 rfl
theorem q463 : (Jvm.Cond.instanceMethod ({ cls := "BridgeAuction$Reader", name := "readCommand", desc := "()Z" } : Jvm.MethodName)) ∈ lw_all := lw_g (lw_at lw_m2 147 rfl) rfl
theorem q464 : (Jvm.Cond.code ({ cls := "BridgeAuction$Reader", name := "readCommand", desc := "()Z" } : Jvm.MethodName) prog_8_method_5_code (6 : Nat) (Option.some Jvm.ClassFile.FieldType.boolean)) ∈ lw_all := lw_g (lw_at lw_m2 148 rfl) rfl
theorem q465 : (Jvm.Cond.classLink "BridgeAuction$Reader" (48 : Nat) "java/lang/StringBuilder") ∈ lw_all := lw_g (lw_at lw_m2 149 rfl) rfl
theorem q467 : (Jvm.Cond.methodLink "BridgeAuction$Reader" (50 : Nat) ({ cls := "java/lang/StringBuilder", name := "<init>", desc := "()V" } : Jvm.MethodName)) ∈ lw_all := lw_g (lw_at lw_m2 151 rfl) rfl
theorem q496 : (Jvm.Cond.methodLink "BridgeAuction$Reader" (51 : Nat) ({ cls := "java/lang/StringBuilder", name := "append", desc := "(C)Ljava/lang/StringBuilder;" } : Jvm.MethodName)) ∈ lw_all := lw_g (lw_at lw_m2 180 rfl) rfl
theorem q574 : (Jvm.Cond.methodLink "BridgeAuction$Reader" (55 : Nat) ({ cls := "java/lang/StringBuilder", name := "toString", desc := "()Ljava/lang/String;" } : Jvm.MethodName)) ∈ lw_all := lw_g (lw_at lw_m3 18 rfl) rfl
theorem q779 : (Jvm.Cond.methodLinkNest "BridgeAuction$Reader" (59 : Nat) ({ cls := "BridgeAuction", name := "commandOf", desc := "(Ljava/lang/String;)LBridgeAuction$Command;" } : Jvm.MethodName) "BridgeAuction") ∈ lw_tbl := lw_at lw_m3 223 rfl
theorem q1151 : (Jvm.Cond.methodLinkNest "BridgeAuction$Reader" (67 : Nat) ({ cls := "BridgeAuction", name := "numbersOf", desc := "(Ljava/lang/String;)I" } : Jvm.MethodName) "BridgeAuction") ∈ lw_tbl := lw_at lw_m5 115 rfl
theorem q1154 : (Jvm.Cond.methodLink "BridgeAuction$Reader" (71 : Nat) ({ cls := "BridgeAuction$Reader", name := "readNumber", desc := "(I)Z" } : Jvm.MethodName)) ∈ lw_all := lw_g (lw_at lw_m5 118 rfl) rfl
theorem q1155 : (Jvm.Cond.privateMethod ({ cls := "BridgeAuction$Reader", name := "readNumber", desc := "(I)Z" } : Jvm.MethodName)) ∈ lw_tbl := lw_at lw_m5 119 rfl
theorem q1156 : (Jvm.Cond.instanceMethod ({ cls := "BridgeAuction$Reader", name := "readNumber", desc := "(I)Z" } : Jvm.MethodName)) ∈ lw_all := lw_g (lw_at lw_m5 120 rfl) rfl
theorem q1157 : (Jvm.Cond.code ({ cls := "BridgeAuction$Reader", name := "readNumber", desc := "(I)Z" } : Jvm.MethodName) prog_8_method_6_code (3 : Nat) (Option.some Jvm.ClassFile.FieldType.boolean)) ∈ lw_all := lw_g (lw_at lw_m5 121 rfl) rfl
theorem q1882 : (Jvm.Cond.castable "BridgeAuction$Reader" "java/lang/Object") ∈ lw_tbl := lw_at lw_m8 126 rfl
theorem in_X9 : ∀ w ∈ wsX90, w ∈ lw_all := lw_in wsX90 [435, 437, 439, 441, 443] (by decide +kernel) (by decide +kernel)
theorem q103 : (Jvm.Cond.initialized "java/lang/AbstractStringBuilder") ∈ lw_all := lw_g (lw_at lw_m1 27 rfl) rfl
theorem q471 : (Jvm.Cond.instanceMethod ({ cls := "java/lang/AbstractStringBuilder", name := "<init>", desc := "(I)V" } : Jvm.MethodName)) ∈ lw_all := lw_g (lw_at lw_m2 155 rfl) rfl
theorem q472 : (Jvm.Cond.code ({ cls := "java/lang/AbstractStringBuilder", name := "<init>", desc := "(I)V" } : Jvm.MethodName) prog_13_method_2_code (2 : Nat) (Option.none : Option Jvm.ClassFile.FieldType)) ∈ lw_all := lw_g (lw_at lw_m2 156 rfl) rfl
theorem q473 : (Jvm.Cond.methodLink "java/lang/AbstractStringBuilder" (3 : Nat) ({ cls := "java/lang/Object", name := "<init>", desc := "()V" } : Jvm.MethodName)) ∈ lw_all := lw_g (lw_at lw_m2 157 rfl) rfl
theorem q474 : (Jvm.Cond.fieldLink "java/lang/AbstractStringBuilder" (18 : Nat) "java/lang/String" "COMPACT_STRINGS" "Z") ∈ lw_all := lw_g (lw_at lw_m2 158 rfl) rfl
theorem q476 : (Jvm.Cond.methodLink "java/lang/AbstractStringBuilder" (26 : Nat) ({ cls := "java/lang/StringUTF16", name := "newBytesFor", desc := "(I)[B" } : Jvm.MethodName)) ∈ lw_all := lw_g (lw_at lw_m2 160 rfl) rfl
theorem q483 : (Jvm.Cond.fieldLink "java/lang/AbstractStringBuilder" (15 : Nat) "java/lang/AbstractStringBuilder" "value" "[B") ∈ lw_all := lw_g (lw_at lw_m2 167 rfl) rfl
theorem q484 : (Jvm.Cond.fieldLink "java/lang/AbstractStringBuilder" (22 : Nat) "java/lang/AbstractStringBuilder" "coder" "B") ∈ lw_all := lw_g (lw_at lw_m2 168 rfl) rfl
theorem q486 : (Jvm.Cond.fieldLink "java/lang/AbstractStringBuilder" (79 : Nat) "java/lang/AbstractStringBuilder" "count" "I") ∈ lw_all := lw_g (lw_at lw_m2 170 rfl) rfl
theorem q488 : (Jvm.Cond.soleField "java/lang/AbstractStringBuilder" "value") ∈ lw_all := lw_g (lw_at lw_m2 172 rfl) rfl
theorem q490 : (Jvm.Cond.soleField "java/lang/AbstractStringBuilder" "coder") ∈ lw_all := lw_g (lw_at lw_m2 174 rfl) rfl
theorem q492 : (Jvm.Cond.soleField "java/lang/AbstractStringBuilder" "maybeLatin1") ∈ lw_all := lw_g (lw_at lw_m2 176 rfl) rfl
theorem q494 : (Jvm.Cond.soleField "java/lang/AbstractStringBuilder" "count") ∈ lw_all := lw_g (lw_at lw_m2 178 rfl) rfl
theorem q501 : (Jvm.Cond.instanceMethod ({ cls := "java/lang/AbstractStringBuilder", name := "append", desc := "(C)Ljava/lang/AbstractStringBuilder;" } : Jvm.MethodName)) ∈ lw_all := lw_g (lw_at lw_m2 185 rfl) rfl
theorem q502 : (Jvm.Cond.code ({ cls := "java/lang/AbstractStringBuilder", name := "append", desc := "(C)Ljava/lang/AbstractStringBuilder;" } : Jvm.MethodName) prog_13_method_31_code (2 : Nat) (Option.some (Jvm.ClassFile.FieldType.object "java/lang/AbstractStringBuilder"))) ∈ lw_all := lw_g (lw_at lw_m2 186 rfl) rfl
theorem q503 : (Jvm.Cond.methodLink "java/lang/AbstractStringBuilder" (100 : Nat) ({ cls := "java/lang/AbstractStringBuilder", name := "ensureCapacityInternal", desc := "(I)V" } : Jvm.MethodName)) ∈ lw_all := lw_g (lw_at lw_m2 187 rfl) rfl
theorem q504 : (Jvm.Cond.privateMethod ({ cls := "java/lang/AbstractStringBuilder", name := "ensureCapacityInternal", desc := "(I)V" } : Jvm.MethodName)) ∈ lw_tbl := lw_at lw_m2 188 rfl
theorem q505 : (Jvm.Cond.instanceMethod ({ cls := "java/lang/AbstractStringBuilder", name := "ensureCapacityInternal", desc := "(I)V" } : Jvm.MethodName)) ∈ lw_all := lw_g (lw_at lw_m2 189 rfl) rfl
theorem q506 : (Jvm.Cond.code ({ cls := "java/lang/AbstractStringBuilder", name := "ensureCapacityInternal", desc := "(I)V" } : Jvm.MethodName) prog_13_method_9_code (3 : Nat) (Option.none : Option Jvm.ClassFile.FieldType)) ∈ lw_all := lw_g (lw_at lw_m2 190 rfl) rfl
theorem q507 : (Jvm.Cond.methodLink "java/lang/AbstractStringBuilder" (104 : Nat) ({ cls := "java/lang/AbstractStringBuilder", name := "newCapacity", desc := "(I)I" } : Jvm.MethodName)) ∈ lw_all := lw_g (lw_at lw_m2 191 rfl) rfl
theorem q508 : (Jvm.Cond.privateMethod ({ cls := "java/lang/AbstractStringBuilder", name := "newCapacity", desc := "(I)I" } : Jvm.MethodName)) ∈ lw_tbl := lw_at lw_m2 192 rfl
theorem q509 : (Jvm.Cond.instanceMethod ({ cls := "java/lang/AbstractStringBuilder", name := "newCapacity", desc := "(I)I" } : Jvm.MethodName)) ∈ lw_all := lw_g (lw_at lw_m2 193 rfl) rfl
theorem q510 : (Jvm.Cond.code ({ cls := "java/lang/AbstractStringBuilder", name := "newCapacity", desc := "(I)I" } : Jvm.MethodName) prog_13_method_10_code (6 : Nat) (Option.some Jvm.ClassFile.FieldType.int)) ∈ lw_all := lw_g (lw_at lw_m2 194 rfl) rfl
theorem q511 : (Jvm.Cond.methodLink "java/lang/AbstractStringBuilder" (114 : Nat) ({ cls := "jdk/internal/util/ArraysSupport", name := "newLength", desc := "(III)I" } : Jvm.MethodName)) ∈ lw_all := lw_g (lw_at lw_m2 195 rfl) rfl
theorem q512 : (Jvm.Cond.constant "java/lang/AbstractStringBuilder" (39 : Nat) (2147483647 : Int32)) ∈ lw_all := lw_g (lw_at lw_m2 196 rfl) rfl
theorem q513 : (Jvm.Cond.methodLink "java/lang/AbstractStringBuilder" (108 : Nat) ({ cls := "java/util/Arrays", name := "copyOf", desc := "([BI)[B" } : Jvm.MethodName)) ∈ lw_all := lw_g (lw_at lw_m2 197 rfl) rfl
theorem q523 : (Jvm.Cond.methodLink "java/lang/AbstractStringBuilder" (83 : Nat) ({ cls := "java/lang/AbstractStringBuilder", name := "isLatin1", desc := "()Z" } : Jvm.MethodName)) ∈ lw_all := lw_g (lw_at lw_m2 207 rfl) rfl
theorem q524 : (Jvm.Cond.instanceMethod ({ cls := "java/lang/AbstractStringBuilder", name := "isLatin1", desc := "()Z" } : Jvm.MethodName)) ∈ lw_all := lw_g (lw_at lw_m2 208 rfl) rfl
theorem q525 : (Jvm.Cond.sameMethod "java/lang/AbstractStringBuilder" "java/lang/AbstractStringBuilder" "isLatin1" "()Z") ∈ lw_all := lw_g (lw_at lw_m2 209 rfl) rfl
theorem q527 : (Jvm.Cond.code ({ cls := "java/lang/AbstractStringBuilder", name := "isLatin1", desc := "()Z" } : Jvm.MethodName) prog_13_method_68_code (1 : Nat) (Option.some Jvm.ClassFile.FieldType.boolean)) ∈ lw_all := lw_g (lw_at lw_m2 211 rfl) rfl
theorem q528 : (Jvm.Cond.methodLink "java/lang/AbstractStringBuilder" (191 : Nat) ({ cls := "java/lang/StringLatin1", name := "canEncode", desc := "(C)Z" } : Jvm.MethodName)) ∈ lw_all := lw_g (lw_at lw_m2 212 rfl) rfl
theorem q531 : (Jvm.Cond.methodLink "java/lang/AbstractStringBuilder" (195 : Nat) ({ cls := "java/lang/AbstractStringBuilder", name := "inflate", desc := "()V" } : Jvm.MethodName)) ∈ lw_all := lw_g (lw_at lw_m2 215 rfl) rfl
theorem q532 : (Jvm.Cond.privateMethod ({ cls := "java/lang/AbstractStringBuilder", name := "inflate", desc := "()V" } : Jvm.MethodName)) ∈ lw_tbl := lw_at lw_m2 216 rfl
theorem q533 : (Jvm.Cond.instanceMethod ({ cls := "java/lang/AbstractStringBuilder", name := "inflate", desc := "()V" } : Jvm.MethodName)) ∈ lw_all := lw_g (lw_at lw_m2 217 rfl) rfl
theorem q534 : (Jvm.Cond.code ({ cls := "java/lang/AbstractStringBuilder", name := "inflate", desc := "()V" } : Jvm.MethodName) prog_13_method_11_code (2 : Nat) (Option.none : Option Jvm.ClassFile.FieldType)) ∈ lw_all := lw_g (lw_at lw_m2 218 rfl) rfl
theorem q535 : (Jvm.Cond.methodLink "java/lang/AbstractStringBuilder" (125 : Nat) ({ cls := "java/lang/StringLatin1", name := "inflate", desc := "([BI[BII)V" } : Jvm.MethodName)) ∈ lw_all := lw_g (lw_at lw_m2 219 rfl) rfl
theorem q564 : (Jvm.Cond.methodLink "java/lang/AbstractStringBuilder" (197 : Nat) ({ cls := "java/lang/StringUTF16", name := "putCharSB", desc := "([BII)V" } : Jvm.MethodName)) ∈ lw_all := lw_g (lw_at lw_m3 8 rfl) rfl
theorem q588 : (Jvm.Cond.instanceMethod ({ cls := "java/lang/AbstractStringBuilder", name := "getValue", desc := "()[B" } : Jvm.MethodName)) ∈ lw_all := lw_g (lw_at lw_m3 32 rfl) rfl
theorem q589 : (Jvm.Cond.sameMethod "java/lang/AbstractStringBuilder" "java/lang/AbstractStringBuilder" "getValue" "()[B") ∈ lw_all := lw_g (lw_at lw_m3 33 rfl) rfl
theorem q591 : (Jvm.Cond.code ({ cls := "java/lang/AbstractStringBuilder", name := "getValue", desc := "()[B" } : Jvm.MethodName) prog_13_method_64_code (1 : Nat) (Option.some (Jvm.ClassFile.FieldType.array Jvm.ClassFile.FieldType.byte))) ∈ lw_all := lw_g (lw_at lw_m3 35 rfl) rfl
theorem q593 : (Jvm.Cond.instanceMethod ({ cls := "java/lang/AbstractStringBuilder", name := "length", desc := "()I" } : Jvm.MethodName)) ∈ lw_all := lw_g (lw_at lw_m3 37 rfl) rfl
theorem q594 : (Jvm.Cond.sameMethod "java/lang/AbstractStringBuilder" "java/lang/AbstractStringBuilder" "length" "()I") ∈ lw_all := lw_g (lw_at lw_m3 38 rfl) rfl
theorem q599 : (Jvm.Cond.code ({ cls := "java/lang/AbstractStringBuilder", name := "length", desc := "()I" } : Jvm.MethodName) prog_13_method_6_code (1 : Nat) (Option.some Jvm.ClassFile.FieldType.int)) ∈ lw_all := lw_g (lw_at lw_m3 43 rfl) rfl
theorem q659 : (Jvm.Cond.instanceMethod ({ cls := "java/lang/AbstractStringBuilder", name := "append", desc := "(I)Ljava/lang/AbstractStringBuilder;" } : Jvm.MethodName)) ∈ lw_all := lw_g (lw_at lw_m3 103 rfl) rfl
theorem q660 : (Jvm.Cond.code ({ cls := "java/lang/AbstractStringBuilder", name := "append", desc := "(I)Ljava/lang/AbstractStringBuilder;" } : Jvm.MethodName) prog_13_method_32_code (4 : Nat) (Option.some (Jvm.ClassFile.FieldType.object "java/lang/AbstractStringBuilder"))) ∈ lw_all := lw_g (lw_at lw_m3 104 rfl) rfl
theorem q661 : (Jvm.Cond.methodLink "java/lang/AbstractStringBuilder" (245 : Nat) ({ cls := "java/lang/Integer", name := "stringSize", desc := "(I)I" } : Jvm.MethodName)) ∈ lw_all := lw_g (lw_at lw_m3 105 rfl) rfl
theorem q664 : (Jvm.Cond.methodLink "java/lang/AbstractStringBuilder" (248 : Nat) ({ cls := "java/lang/Integer", name := "getChars", desc := "(II[B)I" } : Jvm.MethodName)) ∈ lw_all := lw_g (lw_at lw_m3 108 rfl) rfl
theorem q671 : (Jvm.Cond.methodLink "java/lang/AbstractStringBuilder" (251 : Nat) ({ cls := "java/lang/StringUTF16", name := "getChars", desc := "(III[B)I" } : Jvm.MethodName)) ∈ lw_all := lw_g (lw_at lw_m3 115 rfl) rfl
theorem q694 : (Jvm.Cond.instanceMethod ({ cls := "java/lang/AbstractStringBuilder", name := "append", desc := "(Ljava/lang/String;)Ljava/lang/AbstractStringBuilder;" } : Jvm.MethodName)) ∈ lw_all := lw_g (lw_at lw_m3 138 rfl) rfl
theorem q695 : (Jvm.Cond.code ({ cls := "java/lang/AbstractStringBuilder", name := "append", desc := "(Ljava/lang/String;)Ljava/lang/AbstractStringBuilder;" } : Jvm.MethodName) prog_13_method_22_code (3 : Nat) (Option.some (Jvm.ClassFile.FieldType.object "java/lang/AbstractStringBuilder"))) ∈ lw_all := lw_g (lw_at lw_m3 139 rfl) rfl
theorem q696 : (Jvm.Cond.methodLink "java/lang/AbstractStringBuilder" (204 : Nat) ({ cls := "java/lang/AbstractStringBuilder", name := "appendNull", desc := "()Ljava/lang/AbstractStringBuilder;" } : Jvm.MethodName)) ∈ lw_all := lw_g (lw_at lw_m3 140 rfl) rfl
theorem q697 : (Jvm.Cond.privateMethod ({ cls := "java/lang/AbstractStringBuilder", name := "appendNull", desc := "()Ljava/lang/AbstractStringBuilder;" } : Jvm.MethodName)) ∈ lw_tbl := lw_at lw_m3 141 rfl
theorem q698 : (Jvm.Cond.instanceMethod ({ cls := "java/lang/AbstractStringBuilder", name := "appendNull", desc := "()Ljava/lang/AbstractStringBuilder;" } : Jvm.MethodName)) ∈ lw_all := lw_g (lw_at lw_m3 142 rfl) rfl
theorem q699 : (Jvm.Cond.code ({ cls := "java/lang/AbstractStringBuilder", name := "appendNull", desc := "()Ljava/lang/AbstractStringBuilder;" } : Jvm.MethodName) prog_13_method_26_code (3 : Nat) (Option.some (Jvm.ClassFile.FieldType.object "java/lang/AbstractStringBuilder"))) ∈ lw_all := lw_g (lw_at lw_m3 143 rfl) rfl
theorem q700 : (Jvm.Cond.methodLink "java/lang/AbstractStringBuilder" (226 : Nat) ({ cls := "java/lang/StringUTF16", name := "putCharsAt", desc := "([BICCCC)I" } : Jvm.MethodName)) ∈ lw_all := lw_g (lw_at lw_m3 144 rfl) rfl
theorem q703 : (Jvm.Cond.methodLink "java/lang/AbstractStringBuilder" (32 : Nat) ({ cls := "java/lang/String", name := "length", desc := "()I" } : Jvm.MethodName)) ∈ lw_all := lw_g (lw_at lw_m3 147 rfl) rfl
theorem q712 : (Jvm.Cond.methodLink "java/lang/AbstractStringBuilder" (208 : Nat) ({ cls := "java/lang/AbstractStringBuilder", name := "putStringAt", desc := "(ILjava/lang/String;)V" } : Jvm.MethodName)) ∈ lw_all := lw_g (lw_at lw_m3 156 rfl) rfl
theorem q713 : (Jvm.Cond.privateMethod ({ cls := "java/lang/AbstractStringBuilder", name := "putStringAt", desc := "(ILjava/lang/String;)V" } : Jvm.MethodName)) ∈ lw_tbl := lw_at lw_m3 157 rfl
theorem q714 : (Jvm.Cond.instanceMethod ({ cls := "java/lang/AbstractStringBuilder", name := "putStringAt", desc := "(ILjava/lang/String;)V" } : Jvm.MethodName)) ∈ lw_all := lw_g (lw_at lw_m3 158 rfl) rfl
theorem q715 : (Jvm.Cond.code ({ cls := "java/lang/AbstractStringBuilder", name := "putStringAt", desc := "(ILjava/lang/String;)V" } : Jvm.MethodName) prog_13_method_73_code (3 : Nat) (Option.none : Option Jvm.ClassFile.FieldType)) ∈ lw_all := lw_g (lw_at lw_m3 159 rfl) rfl
theorem q716 : (Jvm.Cond.methodLink "java/lang/AbstractStringBuilder" (397 : Nat) ({ cls := "java/lang/AbstractStringBuilder", name := "inflateIfNeededFor", desc := "(Ljava/lang/String;)V" } : Jvm.MethodName)) ∈ lw_all := lw_g (lw_at lw_m3 160 rfl) rfl
theorem q717 : (Jvm.Cond.privateMethod ({ cls := "java/lang/AbstractStringBuilder", name := "inflateIfNeededFor", desc := "(Ljava/lang/String;)V" } : Jvm.MethodName)) ∈ lw_tbl := lw_at lw_m3 161 rfl
theorem q718 : (Jvm.Cond.instanceMethod ({ cls := "java/lang/AbstractStringBuilder", name := "inflateIfNeededFor", desc := "(Ljava/lang/String;)V" } : Jvm.MethodName)) ∈ lw_all := lw_g (lw_at lw_m3 162 rfl) rfl
theorem q719 : (Jvm.Cond.code ({ cls := "java/lang/AbstractStringBuilder", name := "inflateIfNeededFor", desc := "(Ljava/lang/String;)V" } : Jvm.MethodName) prog_13_method_71_code (2 : Nat) (Option.none : Option Jvm.ClassFile.FieldType)) ∈ lw_all := lw_g (lw_at lw_m3 163 rfl) rfl
theorem q720 : (Jvm.Cond.methodLink "java/lang/AbstractStringBuilder" (40 : Nat) ({ cls := "java/lang/String", name := "coder", desc := "()B" } : Jvm.MethodName)) ∈ lw_all := lw_g (lw_at lw_m3 164 rfl) rfl
theorem q721 : (Jvm.Cond.methodLink "java/lang/AbstractStringBuilder" (399 : Nat) ({ cls := "java/lang/String", name := "getBytes", desc := "([BIB)V" } : Jvm.MethodName)) ∈ lw_all := lw_g (lw_at lw_m3 165 rfl) rfl
theorem q1858 : (Jvm.Cond.sameMethod "java/lang/AbstractStringBuilder" "java/lang/AbstractStringBuilder" "append" "(C)Ljava/lang/AbstractStringBuilder;") ∈ lw_all := lw_g (lw_at lw_m8 102 rfl) rfl
theorem q1859 : (Jvm.Cond.sameMethod "java/lang/AbstractStringBuilder" "java/lang/AbstractStringBuilder" "ensureCapacityInternal" "(I)V") ∈ lw_all := lw_g (lw_at lw_m8 103 rfl) rfl
theorem q1860 : (Jvm.Cond.sameMethod "java/lang/AbstractStringBuilder" "java/lang/AbstractStringBuilder" "newCapacity" "(I)I") ∈ lw_all := lw_g (lw_at lw_m8 104 rfl) rfl
theorem q1861 : (Jvm.Cond.sameMethod "java/lang/AbstractStringBuilder" "java/lang/AbstractStringBuilder" "inflate" "()V") ∈ lw_all := lw_g (lw_at lw_m8 105 rfl) rfl
theorem q1863 : (Jvm.Cond.sameMethod "java/lang/AbstractStringBuilder" "java/lang/AbstractStringBuilder" "append" "(I)Ljava/lang/AbstractStringBuilder;") ∈ lw_all := lw_g (lw_at lw_m8 107 rfl) rfl
theorem q1864 : (Jvm.Cond.sameMethod "java/lang/AbstractStringBuilder" "java/lang/AbstractStringBuilder" "append" "(Ljava/lang/String;)Ljava/lang/AbstractStringBuilder;") ∈ lw_all := lw_g (lw_at lw_m8 108 rfl) rfl
theorem q1865 : (Jvm.Cond.sameMethod "java/lang/AbstractStringBuilder" "java/lang/AbstractStringBuilder" "appendNull" "()Ljava/lang/AbstractStringBuilder;") ∈ lw_all := lw_g (lw_at lw_m8 109 rfl) rfl
theorem q1866 : (Jvm.Cond.sameMethod "java/lang/AbstractStringBuilder" "java/lang/AbstractStringBuilder" "putStringAt" "(ILjava/lang/String;)V") ∈ lw_all := lw_g (lw_at lw_m8 110 rfl) rfl
theorem q1867 : (Jvm.Cond.sameMethod "java/lang/AbstractStringBuilder" "java/lang/AbstractStringBuilder" "inflateIfNeededFor" "(Ljava/lang/String;)V") ∈ lw_all := lw_g (lw_at lw_m8 111 rfl) rfl
theorem q104 : (Jvm.Cond.initialized "java/lang/StringBuilder") ∈ lw_all := lw_g (lw_at lw_m1 28 rfl) rfl
theorem q324 : (Jvm.Cond.selects "java/lang/StringBuilder" ({ cls := "java/lang/Object", name := "getClass", desc := "()Ljava/lang/Class;" } : Jvm.MethodName) ({ cls := "java/lang/Object", name := "getClass", desc := "()Ljava/lang/Class;" } : Jvm.MethodName)) ∈ lw_all := lw_g (lw_at lw_m2 8 rfl) rfl
theorem q466 : (Jvm.Cond.instantiable "java/lang/StringBuilder" (4 : Nat)) ∈ lw_all := lw_g (lw_at lw_m2 150 rfl) rfl
theorem q468 : (Jvm.Cond.instanceMethod ({ cls := "java/lang/StringBuilder", name := "<init>", desc := "()V" } : Jvm.MethodName)) ∈ lw_all := lw_g (lw_at lw_m2 152 rfl) rfl
theorem q469 : (Jvm.Cond.code ({ cls := "java/lang/StringBuilder", name := "<init>", desc := "()V" } : Jvm.MethodName) prog_29_method_1_code (1 : Nat) (Option.none : Option Jvm.ClassFile.FieldType)) ∈ lw_all := lw_g (lw_at lw_m2 153 rfl) rfl
theorem q470 : (Jvm.Cond.methodLink "java/lang/StringBuilder" (1 : Nat) ({ cls := "java/lang/AbstractStringBuilder", name := "<init>", desc := "(I)V" } : Jvm.MethodName)) ∈ lw_all := lw_g (lw_at lw_m2 154 rfl) rfl
theorem q487 : (Jvm.Cond.lays "java/lang/StringBuilder" "java/lang/AbstractStringBuilder" "value" "[B") ∈ lw_all := lw_g (lw_at lw_m2 171 rfl) rfl
theorem q489 : (Jvm.Cond.lays "java/lang/StringBuilder" "java/lang/AbstractStringBuilder" "coder" "B") ∈ lw_all := lw_g (lw_at lw_m2 173 rfl) rfl
theorem q491 : (Jvm.Cond.lays "java/lang/StringBuilder" "java/lang/AbstractStringBuilder" "maybeLatin1" "Z") ∈ lw_all := lw_g (lw_at lw_m2 175 rfl) rfl
theorem q493 : (Jvm.Cond.lays "java/lang/StringBuilder" "java/lang/AbstractStringBuilder" "count" "I") ∈ lw_all := lw_g (lw_at lw_m2 177 rfl) rfl
theorem q495 : (Jvm.Cond.superclass "java/lang/StringBuilder" "java/lang/AbstractStringBuilder") ∈ lw_all := lw_g (lw_at lw_m2 179 rfl) rfl
theorem q497 : (Jvm.Cond.instanceMethod ({ cls := "java/lang/StringBuilder", name := "append", desc := "(C)Ljava/lang/StringBuilder;" } : Jvm.MethodName)) ∈ lw_all := lw_g (lw_at lw_m2 181 rfl) rfl
theorem q498 : (Jvm.Cond.selects "java/lang/StringBuilder" ({ cls := "java/lang/StringBuilder", name := "append", desc := "(C)Ljava/lang/StringBuilder;" } : Jvm.MethodName) ({ cls := "java/lang/StringBuilder", name := "append", desc := "(C)Ljava/lang/StringBuilder;" } : Jvm.MethodName)) ∈ lw_all := lw_g (lw_at lw_m2 182 rfl) rfl
theorem q499 : (Jvm.Cond.code ({ cls := "java/lang/StringBuilder", name := "append", desc := "(C)Ljava/lang/StringBuilder;" } : Jvm.MethodName) prog_29_method_14_code (2 : Nat) (Option.some (Jvm.ClassFile.FieldType.object "java/lang/StringBuilder"))) ∈ lw_all := lw_g (lw_at lw_m2 183 rfl) rfl
theorem q500 : (Jvm.Cond.methodLink "java/lang/StringBuilder" (50 : Nat) ({ cls := "java/lang/AbstractStringBuilder", name := "append", desc := "(C)Ljava/lang/AbstractStringBuilder;" } : Jvm.MethodName)) ∈ lw_all := lw_g (lw_at lw_m2 184 rfl) rfl
theorem q526 : (Jvm.Cond.selects "java/lang/StringBuilder" ({ cls := "java/lang/AbstractStringBuilder", name := "isLatin1", desc := "()Z" } : Jvm.MethodName) ({ cls := "java/lang/AbstractStringBuilder", name := "isLatin1", desc := "()Z" } : Jvm.MethodName)) ∈ lw_all := lw_g (lw_at lw_m2 210 rfl) rfl
theorem q575 : (Jvm.Cond.instanceMethod ({ cls := "java/lang/StringBuilder", name := "toString", desc := "()Ljava/lang/String;" } : Jvm.MethodName)) ∈ lw_all := lw_g (lw_at lw_m3 19 rfl) rfl
theorem q576 : (Jvm.Cond.selects "java/lang/StringBuilder" ({ cls := "java/lang/StringBuilder", name := "toString", desc := "()Ljava/lang/String;" } : Jvm.MethodName) ({ cls := "java/lang/StringBuilder", name := "toString", desc := "()Ljava/lang/String;" } : Jvm.MethodName)) ∈ lw_all := lw_g (lw_at lw_m3 20 rfl) rfl
theorem q577 : (Jvm.Cond.code ({ cls := "java/lang/StringBuilder", name := "toString", desc := "()Ljava/lang/String;" } : Jvm.MethodName) prog_29_method_42_code (1 : Nat) (Option.some (Jvm.ClassFile.FieldType.object "java/lang/String"))) ∈ lw_all := lw_g (lw_at lw_m3 21 rfl) rfl
theorem q578 : (Jvm.Cond.classLink "java/lang/StringBuilder" (18 : Nat) "java/lang/String") ∈ lw_all := lw_g (lw_at lw_m3 22 rfl) rfl
theorem q580 : (Jvm.Cond.methodLink "java/lang/StringBuilder" (137 : Nat) ({ cls := "java/lang/String", name := "<init>", desc := "(Ljava/lang/StringBuilder;)V" } : Jvm.MethodName)) ∈ lw_all := lw_g (lw_at lw_m3 24 rfl) rfl
theorem q590 : (Jvm.Cond.selects "java/lang/StringBuilder" ({ cls := "java/lang/AbstractStringBuilder", name := "getValue", desc := "()[B" } : Jvm.MethodName) ({ cls := "java/lang/AbstractStringBuilder", name := "getValue", desc := "()[B" } : Jvm.MethodName)) ∈ lw_all := lw_g (lw_at lw_m3 34 rfl) rfl
theorem q595 : (Jvm.Cond.selects "java/lang/StringBuilder" ({ cls := "java/lang/AbstractStringBuilder", name := "length", desc := "()I" } : Jvm.MethodName) ({ cls := "java/lang/StringBuilder", name := "length", desc := "()I" } : Jvm.MethodName)) ∈ lw_all := lw_g (lw_at lw_m3 39 rfl) rfl
theorem q596 : (Jvm.Cond.instanceMethod ({ cls := "java/lang/StringBuilder", name := "length", desc := "()I" } : Jvm.MethodName)) ∈ lw_all := lw_g (lw_at lw_m3 40 rfl) rfl
theorem q597 : (Jvm.Cond.code ({ cls := "java/lang/StringBuilder", name := "length", desc := "()I" } : Jvm.MethodName) prog_29_method_93_code (1 : Nat) (Option.some Jvm.ClassFile.FieldType.int)) ∈ lw_all := lw_g (lw_at lw_m3 41 rfl) rfl
theorem q598 : (Jvm.Cond.methodLink "java/lang/StringBuilder" (343 : Nat) ({ cls := "java/lang/AbstractStringBuilder", name := "length", desc := "()I" } : Jvm.MethodName)) ∈ lw_all := lw_g (lw_at lw_m3 42 rfl) rfl
theorem q655 : (Jvm.Cond.instanceMethod ({ cls := "java/lang/StringBuilder", name := "append", desc := "(I)Ljava/lang/StringBuilder;" } : Jvm.MethodName)) ∈ lw_all := lw_g (lw_at lw_m3 99 rfl) rfl
theorem q656 : (Jvm.Cond.selects "java/lang/StringBuilder" ({ cls := "java/lang/StringBuilder", name := "append", desc := "(I)Ljava/lang/StringBuilder;" } : Jvm.MethodName) ({ cls := "java/lang/StringBuilder", name := "append", desc := "(I)Ljava/lang/StringBuilder;" } : Jvm.MethodName)) ∈ lw_all := lw_g (lw_at lw_m3 100 rfl) rfl
theorem q657 : (Jvm.Cond.code ({ cls := "java/lang/StringBuilder", name := "append", desc := "(I)Ljava/lang/StringBuilder;" } : Jvm.MethodName) prog_29_method_15_code (2 : Nat) (Option.some (Jvm.ClassFile.FieldType.object "java/lang/StringBuilder"))) ∈ lw_all := lw_g (lw_at lw_m3 101 rfl) rfl
theorem q658 : (Jvm.Cond.methodLink "java/lang/StringBuilder" (53 : Nat) ({ cls := "java/lang/AbstractStringBuilder", name := "append", desc := "(I)Ljava/lang/AbstractStringBuilder;" } : Jvm.MethodName)) ∈ lw_all := lw_g (lw_at lw_m3 102 rfl) rfl
theorem q690 : (Jvm.Cond.instanceMethod ({ cls := "java/lang/StringBuilder", name := "append", desc := "(Ljava/lang/String;)Ljava/lang/StringBuilder;" } : Jvm.MethodName)) ∈ lw_all := lw_g (lw_at lw_m3 134 rfl) rfl
theorem q691 : (Jvm.Cond.selects "java/lang/StringBuilder" ({ cls := "java/lang/StringBuilder", name := "append", desc := "(Ljava/lang/String;)Ljava/lang/StringBuilder;" } : Jvm.MethodName) ({ cls := "java/lang/StringBuilder", name := "append", desc := "(Ljava/lang/String;)Ljava/lang/StringBuilder;" } : Jvm.MethodName)) ∈ lw_all := lw_g (lw_at lw_m3 135 rfl) rfl
theorem q692 : (Jvm.Cond.code ({ cls := "java/lang/StringBuilder", name := "append", desc := "(Ljava/lang/String;)Ljava/lang/StringBuilder;" } : Jvm.MethodName) prog_29_method_7_code (2 : Nat) (Option.some (Jvm.ClassFile.FieldType.object "java/lang/StringBuilder"))) ∈ lw_all := lw_g (lw_at lw_m3 136 rfl) rfl
theorem q693 : (Jvm.Cond.methodLink "java/lang/StringBuilder" (29 : Nat) ({ cls := "java/lang/AbstractStringBuilder", name := "append", desc := "(Ljava/lang/String;)Ljava/lang/AbstractStringBuilder;" } : Jvm.MethodName)) ∈ lw_all := lw_g (lw_at lw_m3 137 rfl) rfl
theorem q1883 : (Jvm.Cond.castable "java/lang/StringBuilder" "java/lang/Object") ∈ lw_tbl := lw_at lw_m8 127 rfl
theorem in_J17 : ∀ w ∈ wsJ170, w ∈ lw_all := lw_in wsJ170 [487, 489, 491, 493] (by decide +kernel) (by decide +kernel)
theorem q105 : (Jvm.Cond.initialized "java/lang/StringUTF16") ∈ lw_all := lw_g (lw_at lw_m1 29 rfl) rfl
theorem q477 : (Jvm.Cond.static ({ cls := "java/lang/StringUTF16", name := "newBytesFor", desc := "(I)[B" } : Jvm.MethodName)) ∈ lw_all := lw_g (lw_at lw_m2 161 rfl) rfl
theorem q478 : (Jvm.Cond.code ({ cls := "java/lang/StringUTF16", name := "newBytesFor", desc := "(I)[B" } : Jvm.MethodName) prog_31_method_2_code (1 : Nat) (Option.some (Jvm.ClassFile.FieldType.array Jvm.ClassFile.FieldType.byte))) ∈ lw_all := lw_g (lw_at lw_m2 162 rfl) rfl
theorem q479 : (Jvm.Cond.methodLink "java/lang/StringUTF16" (11 : Nat) ({ cls := "java/lang/StringUTF16", name := "newBytesLength", desc := "(I)I" } : Jvm.MethodName)) ∈ lw_all := lw_g (lw_at lw_m2 163 rfl) rfl
theorem q480 : (Jvm.Cond.static ({ cls := "java/lang/StringUTF16", name := "newBytesLength", desc := "(I)I" } : Jvm.MethodName)) ∈ lw_all := lw_g (lw_at lw_m2 164 rfl) rfl
theorem q481 : (Jvm.Cond.code ({ cls := "java/lang/StringUTF16", name := "newBytesLength", desc := "(I)I" } : Jvm.MethodName) prog_31_method_3_code (1 : Nat) (Option.some Jvm.ClassFile.FieldType.int)) ∈ lw_all := lw_g (lw_at lw_m2 165 rfl) rfl
theorem q482 : (Jvm.Cond.constant "java/lang/StringUTF16" (20 : Nat) (1073741823 : Int32)) ∈ lw_all := lw_g (lw_at lw_m2 166 rfl) rfl
theorem q539 : (Jvm.Cond.static ({ cls := "java/lang/StringUTF16", name := "inflate", desc := "([BI[BII)V" } : Jvm.MethodName)) ∈ lw_all := lw_g (lw_at lw_m2 223 rfl) rfl
theorem q540 : (Jvm.Cond.code ({ cls := "java/lang/StringUTF16", name := "inflate", desc := "([BI[BII)V" } : Jvm.MethodName) prog_31_method_86_code (6 : Nat) (Option.none : Option Jvm.ClassFile.FieldType)) ∈ lw_all := lw_g (lw_at lw_m2 224 rfl) rfl
theorem q541 : (Jvm.Cond.methodLink "java/lang/StringUTF16" (173 : Nat) ({ cls := "java/lang/StringUTF16", name := "checkBoundsOffCount", desc := "(II[B)V" } : Jvm.MethodName)) ∈ lw_all := lw_g (lw_at lw_m2 225 rfl) rfl
theorem q542 : (Jvm.Cond.static ({ cls := "java/lang/StringUTF16", name := "checkBoundsOffCount", desc := "(II[B)V" } : Jvm.MethodName)) ∈ lw_all := lw_g (lw_at lw_m2 226 rfl) rfl
theorem q543 : (Jvm.Cond.code ({ cls := "java/lang/StringUTF16", name := "checkBoundsOffCount", desc := "(II[B)V" } : Jvm.MethodName) prog_31_method_94_code (3 : Nat) (Option.none : Option Jvm.ClassFile.FieldType)) ∈ lw_all := lw_g (lw_at lw_m2 227 rfl) rfl
theorem q544 : (Jvm.Cond.methodLink "java/lang/StringUTF16" (48 : Nat) ({ cls := "java/lang/StringUTF16", name := "length", desc := "([B)I" } : Jvm.MethodName)) ∈ lw_all := lw_g (lw_at lw_m2 228 rfl) rfl
theorem q545 : (Jvm.Cond.static ({ cls := "java/lang/StringUTF16", name := "length", desc := "([B)I" } : Jvm.MethodName)) ∈ lw_all := lw_g (lw_at lw_m2 229 rfl) rfl
theorem q546 : (Jvm.Cond.code ({ cls := "java/lang/StringUTF16", name := "length", desc := "([B)I" } : Jvm.MethodName) prog_31_method_6_code (1 : Nat) (Option.some Jvm.ClassFile.FieldType.int)) ∈ lw_all := lw_g (lw_at lw_m2 230 rfl) rfl
theorem q547 : (Jvm.Cond.methodLink "java/lang/StringUTF16" (419 : Nat) ({ cls := "java/lang/String", name := "checkBoundsOffCount", desc := "(III)I" } : Jvm.MethodName)) ∈ lw_all := lw_g (lw_at lw_m2 231 rfl) rfl
theorem q555 : (Jvm.Cond.methodLink "java/lang/StringUTF16" (111 : Nat) ({ cls := "java/lang/StringUTF16", name := "putChar", desc := "([BII)V" } : Jvm.MethodName)) ∈ lw_all := lw_g (lw_at lw_m2 239 rfl) rfl
theorem q556 : (Jvm.Cond.static ({ cls := "java/lang/StringUTF16", name := "putChar", desc := "([BII)V" } : Jvm.MethodName)) ∈ lw_all := lw_g (lw_at lw_m3 0 rfl) rfl
theorem q557 : (Jvm.Cond.code ({ cls := "java/lang/StringUTF16", name := "putChar", desc := "([BII)V" } : Jvm.MethodName) prog_31_method_4_code (3 : Nat) (Option.none : Option Jvm.ClassFile.FieldType)) ∈ lw_all := lw_g (lw_at lw_m3 1 rfl) rfl
theorem q558 : (Jvm.Cond.fieldLink "java/lang/StringUTF16" (44 : Nat) "java/lang/StringUTF16" "$assertionsDisabled" "Z") ∈ lw_all := lw_g (lw_at lw_m3 2 rfl) rfl
theorem q559 : (Jvm.Cond.laysStatic "java/lang/StringUTF16" "$assertionsDisabled" "Z") ∈ lw_tbl := lw_at lw_m3 3 rfl
theorem q560 : (Jvm.Cond.fieldLink "java/lang/StringUTF16" (59 : Nat) "java/lang/StringUTF16" "HI_BYTE_SHIFT" "I") ∈ lw_all := lw_g (lw_at lw_m3 4 rfl) rfl
theorem q561 : (Jvm.Cond.laysStatic "java/lang/StringUTF16" "HI_BYTE_SHIFT" "I") ∈ lw_tbl := lw_at lw_m3 5 rfl
theorem q562 : (Jvm.Cond.fieldLink "java/lang/StringUTF16" (63 : Nat) "java/lang/StringUTF16" "LO_BYTE_SHIFT" "I") ∈ lw_all := lw_g (lw_at lw_m3 6 rfl) rfl
theorem q563 : (Jvm.Cond.laysStatic "java/lang/StringUTF16" "LO_BYTE_SHIFT" "I") ∈ lw_tbl := lw_at lw_m3 7 rfl
theorem q565 : (Jvm.Cond.static ({ cls := "java/lang/StringUTF16", name := "putCharSB", desc := "([BII)V" } : Jvm.MethodName)) ∈ lw_all := lw_g (lw_at lw_m3 9 rfl) rfl
theorem q566 : (Jvm.Cond.code ({ cls := "java/lang/StringUTF16", name := "putCharSB", desc := "([BII)V" } : Jvm.MethodName) prog_31_method_71_code (3 : Nat) (Option.none : Option Jvm.ClassFile.FieldType)) ∈ lw_all := lw_g (lw_at lw_m3 10 rfl) rfl
theorem q567 : (Jvm.Cond.methodLink "java/lang/StringUTF16" (67 : Nat) ({ cls := "java/lang/StringUTF16", name := "checkIndex", desc := "(I[B)V" } : Jvm.MethodName)) ∈ lw_all := lw_g (lw_at lw_m3 11 rfl) rfl
theorem q568 : (Jvm.Cond.static ({ cls := "java/lang/StringUTF16", name := "checkIndex", desc := "(I[B)V" } : Jvm.MethodName)) ∈ lw_all := lw_g (lw_at lw_m3 12 rfl) rfl
theorem q569 : (Jvm.Cond.code ({ cls := "java/lang/StringUTF16", name := "checkIndex", desc := "(I[B)V" } : Jvm.MethodName) prog_31_method_91_code (2 : Nat) (Option.none : Option Jvm.ClassFile.FieldType)) ∈ lw_all := lw_g (lw_at lw_m3 13 rfl) rfl
theorem q570 : (Jvm.Cond.methodLink "java/lang/StringUTF16" (414 : Nat) ({ cls := "java/lang/String", name := "checkIndex", desc := "(II)V" } : Jvm.MethodName)) ∈ lw_all := lw_g (lw_at lw_m3 14 rfl) rfl
theorem q672 : (Jvm.Cond.static ({ cls := "java/lang/StringUTF16", name := "getChars", desc := "(III[B)I" } : Jvm.MethodName)) ∈ lw_all := lw_g (lw_at lw_m3 116 rfl) rfl
theorem q673 : (Jvm.Cond.code ({ cls := "java/lang/StringUTF16", name := "getChars", desc := "(III[B)I" } : Jvm.MethodName) prog_31_method_77_code (5 : Nat) (Option.some Jvm.ClassFile.FieldType.int)) ∈ lw_all := lw_g (lw_at lw_m3 117 rfl) rfl
theorem q674 : (Jvm.Cond.methodLink "java/lang/StringUTF16" (96 : Nat) ({ cls := "java/lang/StringUTF16", name := "checkBoundsBeginEnd", desc := "(II[B)V" } : Jvm.MethodName)) ∈ lw_all := lw_g (lw_at lw_m3 118 rfl) rfl
theorem q675 : (Jvm.Cond.static ({ cls := "java/lang/StringUTF16", name := "checkBoundsBeginEnd", desc := "(II[B)V" } : Jvm.MethodName)) ∈ lw_all := lw_g (lw_at lw_m3 119 rfl) rfl
theorem q676 : (Jvm.Cond.code ({ cls := "java/lang/StringUTF16", name := "checkBoundsBeginEnd", desc := "(II[B)V" } : Jvm.MethodName) prog_31_method_93_code (3 : Nat) (Option.none : Option Jvm.ClassFile.FieldType)) ∈ lw_all := lw_g (lw_at lw_m3 120 rfl) rfl
theorem q677 : (Jvm.Cond.methodLink "java/lang/StringUTF16" (241 : Nat) ({ cls := "java/lang/String", name := "checkBoundsBeginEnd", desc := "(III)V" } : Jvm.MethodName)) ∈ lw_all := lw_g (lw_at lw_m3 121 rfl) rfl
theorem q683 : (Jvm.Cond.methodLink "java/lang/StringUTF16" (393 : Nat) ({ cls := "java/lang/StringUTF16", name := "getChars", desc := "(II[B)I" } : Jvm.MethodName)) ∈ lw_all := lw_g (lw_at lw_m3 127 rfl) rfl
theorem q684 : (Jvm.Cond.static ({ cls := "java/lang/StringUTF16", name := "getChars", desc := "(II[B)I" } : Jvm.MethodName)) ∈ lw_all := lw_g (lw_at lw_m3 128 rfl) rfl
theorem q685 : (Jvm.Cond.code ({ cls := "java/lang/StringUTF16", name := "getChars", desc := "(II[B)I" } : Jvm.MethodName) prog_31_method_89_code (7 : Nat) (Option.some Jvm.ClassFile.FieldType.int)) ∈ lw_all := lw_g (lw_at lw_m3 129 rfl) rfl
theorem q686 : (Jvm.Cond.fieldLink "java/lang/StringUTF16" (403 : Nat) "java/lang/Integer" "DigitOnes" "[B") ∈ lw_all := lw_g (lw_at lw_m3 130 rfl) rfl
theorem q687 : (Jvm.Cond.fieldLink "java/lang/StringUTF16" (407 : Nat) "java/lang/Integer" "DigitTens" "[B") ∈ lw_all := lw_g (lw_at lw_m3 131 rfl) rfl
theorem q701 : (Jvm.Cond.static ({ cls := "java/lang/StringUTF16", name := "putCharsAt", desc := "([BICCCC)I" } : Jvm.MethodName)) ∈ lw_all := lw_g (lw_at lw_m3 145 rfl) rfl
theorem q702 : (Jvm.Cond.code ({ cls := "java/lang/StringUTF16", name := "putCharsAt", desc := "([BICCCC)I" } : Jvm.MethodName) prog_31_method_81_code (7 : Nat) (Option.some Jvm.ClassFile.FieldType.int)) ∈ lw_all := lw_g (lw_at lw_m3 146 rfl) rfl
theorem q754 : (Jvm.Cond.static ({ cls := "java/lang/StringUTF16", name := "compress", desc := "([BII)[B" } : Jvm.MethodName)) ∈ lw_all := lw_g (lw_at lw_m3 198 rfl) rfl
theorem q755 : (Jvm.Cond.code ({ cls := "java/lang/StringUTF16", name := "compress", desc := "([BII)[B" } : Jvm.MethodName) prog_31_method_17_code (6 : Nat) (Option.some (Jvm.ClassFile.FieldType.array Jvm.ClassFile.FieldType.byte))) ∈ lw_all := lw_g (lw_at lw_m3 199 rfl) rfl
theorem q756 : (Jvm.Cond.methodLink "java/lang/StringUTF16" (123 : Nat) ({ cls := "java/lang/StringUTF16", name := "compress", desc := "([BI[BII)I" } : Jvm.MethodName)) ∈ lw_all := lw_g (lw_at lw_m3 200 rfl) rfl
theorem q757 : (Jvm.Cond.static ({ cls := "java/lang/StringUTF16", name := "compress", desc := "([BI[BII)I" } : Jvm.MethodName)) ∈ lw_all := lw_g (lw_at lw_m3 201 rfl) rfl
theorem q758 : (Jvm.Cond.code ({ cls := "java/lang/StringUTF16", name := "compress", desc := "([BI[BII)I" } : Jvm.MethodName) prog_31_method_22_code (7 : Nat) (Option.some Jvm.ClassFile.FieldType.int)) ∈ lw_all := lw_g (lw_at lw_m3 202 rfl) rfl
theorem q759 : (Jvm.Cond.methodLink "java/lang/StringUTF16" (71 : Nat) ({ cls := "java/lang/StringUTF16", name := "getChar", desc := "([BI)C" } : Jvm.MethodName)) ∈ lw_all := lw_g (lw_at lw_m3 203 rfl) rfl
theorem q760 : (Jvm.Cond.static ({ cls := "java/lang/StringUTF16", name := "getChar", desc := "([BI)C" } : Jvm.MethodName)) ∈ lw_all := lw_g (lw_at lw_m3 204 rfl) rfl
theorem q761 : (Jvm.Cond.code ({ cls := "java/lang/StringUTF16", name := "getChar", desc := "([BI)C" } : Jvm.MethodName) prog_31_method_5_code (2 : Nat) (Option.some Jvm.ClassFile.FieldType.char)) ∈ lw_all := lw_g (lw_at lw_m3 205 rfl) rfl
theorem q762 : (Jvm.Cond.methodLink "java/lang/StringUTF16" (126 : Nat) ({ cls := "java/util/Arrays", name := "copyOfRange", desc := "([BII)[B" } : Jvm.MethodName)) ∈ lw_all := lw_g (lw_at lw_m3 206 rfl) rfl
theorem q764 : (Jvm.Cond.static ({ cls := "java/lang/StringUTF16", name := "coderFromArrayLen", desc := "([BI)B" } : Jvm.MethodName)) ∈ lw_all := lw_g (lw_at lw_m3 208 rfl) rfl
theorem q765 : (Jvm.Cond.code ({ cls := "java/lang/StringUTF16", name := "coderFromArrayLen", desc := "([BI)B" } : Jvm.MethodName) prog_31_method_15_code (2 : Nat) (Option.some Jvm.ClassFile.FieldType.byte)) ∈ lw_all := lw_g (lw_at lw_m3 209 rfl) rfl
theorem q840 : (Jvm.Cond.static ({ cls := "java/lang/StringUTF16", name := "hashCode", desc := "([B)I" } : Jvm.MethodName)) ∈ lw_all := lw_g (lw_at lw_m4 44 rfl) rfl
theorem q841 : (Jvm.Cond.code ({ cls := "java/lang/StringUTF16", name := "hashCode", desc := "([B)I" } : Jvm.MethodName) prog_31_method_39_code (1 : Nat) (Option.some Jvm.ClassFile.FieldType.int)) ∈ lw_all := lw_g (lw_at lw_m4 45 rfl) rfl
theorem q842 : (Jvm.Cond.methodLink "java/lang/StringUTF16" (220 : Nat) ({ cls := "jdk/internal/util/ArraysSupport", name := "vectorizedHashCode", desc := "(Ljava/lang/Object;IIII)I" } : Jvm.MethodName)) ∈ lw_all := lw_g (lw_at lw_m4 46 rfl) rfl
theorem q106 : (Jvm.Cond.initialized "java/lang/StringLatin1") ∈ lw_all := lw_g (lw_at lw_m1 30 rfl) rfl
theorem q529 : (Jvm.Cond.static ({ cls := "java/lang/StringLatin1", name := "canEncode", desc := "(C)Z" } : Jvm.MethodName)) ∈ lw_all := lw_g (lw_at lw_m2 213 rfl) rfl
theorem q530 : (Jvm.Cond.code ({ cls := "java/lang/StringLatin1", name := "canEncode", desc := "(C)Z" } : Jvm.MethodName) prog_30_method_3_code (1 : Nat) (Option.some Jvm.ClassFile.FieldType.boolean)) ∈ lw_all := lw_g (lw_at lw_m2 214 rfl) rfl
theorem q536 : (Jvm.Cond.static ({ cls := "java/lang/StringLatin1", name := "inflate", desc := "([BI[BII)V" } : Jvm.MethodName)) ∈ lw_all := lw_g (lw_at lw_m2 220 rfl) rfl
theorem q537 : (Jvm.Cond.code ({ cls := "java/lang/StringLatin1", name := "inflate", desc := "([BI[BII)V" } : Jvm.MethodName) prog_30_method_50_code (5 : Nat) (Option.none : Option Jvm.ClassFile.FieldType)) ∈ lw_all := lw_g (lw_at lw_m2 221 rfl) rfl
theorem q538 : (Jvm.Cond.methodLink "java/lang/StringLatin1" (240 : Nat) ({ cls := "java/lang/StringUTF16", name := "inflate", desc := "([BI[BII)V" } : Jvm.MethodName)) ∈ lw_all := lw_g (lw_at lw_m2 222 rfl) rfl
theorem q791 : (Jvm.Cond.static ({ cls := "java/lang/StringLatin1", name := "hashCode", desc := "([B)I" } : Jvm.MethodName)) ∈ lw_all := lw_g (lw_at lw_m3 235 rfl) rfl
theorem q792 : (Jvm.Cond.code ({ cls := "java/lang/StringLatin1", name := "hashCode", desc := "([B)I" } : Jvm.MethodName) prog_30_method_21_code (1 : Nat) (Option.some Jvm.ClassFile.FieldType.int)) ∈ lw_all := lw_g (lw_at lw_m3 236 rfl) rfl
theorem q793 : (Jvm.Cond.methodLink "java/lang/StringLatin1" (84 : Nat) ({ cls := "jdk/internal/util/ArraysSupport", name := "vectorizedHashCode", desc := "(Ljava/lang/Object;IIII)I" } : Jvm.MethodName)) ∈ lw_all := lw_g (lw_at lw_m3 237 rfl) rfl
theorem q850 : (Jvm.Cond.static ({ cls := "java/lang/StringLatin1", name := "equals", desc := "([B[B)Z" } : Jvm.MethodName)) ∈ lw_all := lw_g (lw_at lw_m4 54 rfl) rfl
theorem q851 : (Jvm.Cond.code ({ cls := "java/lang/StringLatin1", name := "equals", desc := "([B[B)Z" } : Jvm.MethodName) prog_30_method_13_code (3 : Nat) (Option.some Jvm.ClassFile.FieldType.boolean)) ∈ lw_all := lw_g (lw_at lw_m4 55 rfl) rfl
theorem q108 : (Jvm.Cond.initialized "java/lang/Integer") ∈ lw_all := lw_g (lw_at lw_m1 32 rfl) rfl
theorem q662 : (Jvm.Cond.static ({ cls := "java/lang/Integer", name := "stringSize", desc := "(I)I" } : Jvm.MethodName)) ∈ lw_all := lw_g (lw_at lw_m3 106 rfl) rfl
theorem q663 : (Jvm.Cond.code ({ cls := "java/lang/Integer", name := "stringSize", desc := "(I)I" } : Jvm.MethodName) prog_23_method_13_code (4 : Nat) (Option.some Jvm.ClassFile.FieldType.int)) ∈ lw_all := lw_g (lw_at lw_m3 107 rfl) rfl
theorem q665 : (Jvm.Cond.static ({ cls := "java/lang/Integer", name := "getChars", desc := "(II[B)I" } : Jvm.MethodName)) ∈ lw_all := lw_g (lw_at lw_m3 109 rfl) rfl
theorem q666 : (Jvm.Cond.code ({ cls := "java/lang/Integer", name := "getChars", desc := "(II[B)I" } : Jvm.MethodName) prog_23_method_12_code (7 : Nat) (Option.some Jvm.ClassFile.FieldType.int)) ∈ lw_all := lw_g (lw_at lw_m3 110 rfl) rfl
theorem q667 : (Jvm.Cond.fieldLink "java/lang/Integer" (83 : Nat) "java/lang/Integer" "DigitOnes" "[B") ∈ lw_all := lw_g (lw_at lw_m3 111 rfl) rfl
theorem q668 : (Jvm.Cond.laysStatic "java/lang/Integer" "DigitOnes" "[B") ∈ lw_tbl := lw_at lw_m3 112 rfl
theorem q669 : (Jvm.Cond.fieldLink "java/lang/Integer" (87 : Nat) "java/lang/Integer" "DigitTens" "[B") ∈ lw_all := lw_g (lw_at lw_m3 113 rfl) rfl
theorem q670 : (Jvm.Cond.laysStatic "java/lang/Integer" "DigitTens" "[B") ∈ lw_tbl := lw_at lw_m3 114 rfl
theorem q115 : (Jvm.Cond.instanceMethod ({ cls := "java/lang/Object", name := "<init>", desc := "()V" } : Jvm.MethodName)) ∈ lw_all := lw_g (lw_at lw_m1 39 rfl) rfl
theorem q116 : (Jvm.Cond.code ({ cls := "java/lang/Object", name := "<init>", desc := "()V" } : Jvm.MethodName) object_method_1_code (1 : Nat) (Option.none : Option Jvm.ClassFile.FieldType)) ∈ lw_all := lw_g (lw_at lw_m1 40 rfl) rfl
theorem q309 : (Jvm.Cond.instanceMethod ({ cls := "java/lang/Object", name := "getClass", desc := "()Ljava/lang/Class;" } : Jvm.MethodName)) ∈ lw_all := lw_g (lw_at lw_m1 233 rfl) rfl
theorem q310 : (Jvm.Cond.sameMethod "java/lang/Object" "java/lang/Object" "getClass" "()Ljava/lang/Class;") ∈ lw_all := lw_g (lw_at lw_m1 234 rfl) rfl
theorem q327 : (Jvm.Cond.native ({ cls := "java/lang/Object", name := "getClass", desc := "()Ljava/lang/Class;" } : Jvm.MethodName)) ∈ lw_all := lw_g (lw_at lw_m2 11 rfl) rfl
theorem q518 : (Jvm.Cond.native ({ cls := "java/lang/Object", name := "clone", desc := "()Ljava/lang/Object;" } : Jvm.MethodName)) ∈ lw_all := lw_g (lw_at lw_m2 202 rfl) rfl
theorem q519 : (Jvm.Cond.instanceMethod ({ cls := "java/lang/Object", name := "clone", desc := "()Ljava/lang/Object;" } : Jvm.MethodName)) ∈ lw_all := lw_g (lw_at lw_m2 203 rfl) rfl
theorem q1868 : (Jvm.Cond.initialized "java/lang/Object") ∈ lw_all := lw_g (lw_at lw_m8 112 rfl) rfl
theorem q1889 : (Jvm.Cond.declares ({ cls := "java/lang/Object", name := "getClass", desc := "()Ljava/lang/Class;" } : Jvm.MethodName)) ∈ lw_tbl := lw_at lw_m8 133 rfl
theorem q325 : (Jvm.Cond.selects "java/lang/System$2" ({ cls := "java/lang/Object", name := "getClass", desc := "()Ljava/lang/Class;" } : Jvm.MethodName) ({ cls := "java/lang/Object", name := "getClass", desc := "()Ljava/lang/Class;" } : Jvm.MethodName)) ∈ lw_all := lw_g (lw_at lw_m2 9 rfl) rfl
theorem q809 : (Jvm.Cond.castable "java/lang/System$2" "jdk/internal/access/JavaLangAccess") ∈ lw_tbl := lw_at lw_m4 13 rfl
theorem q810 : (Jvm.Cond.selects "java/lang/System$2" ({ cls := "jdk/internal/access/JavaLangAccess", name := "getUTF16Char", desc := "([BI)C" } : Jvm.MethodName) ({ cls := "java/lang/System$2", name := "getUTF16Char", desc := "([BI)C" } : Jvm.MethodName)) ∈ lw_all := lw_g (lw_at lw_m4 14 rfl) rfl
theorem q811 : (Jvm.Cond.unhidden "java/lang/System$2" "getUTF16Char" "([BI)C") ∈ lw_tbl := lw_at lw_m4 15 rfl
theorem q812 : (Jvm.Cond.instanceMethod ({ cls := "java/lang/System$2", name := "getUTF16Char", desc := "([BI)C" } : Jvm.MethodName)) ∈ lw_all := lw_g (lw_at lw_m4 16 rfl) rfl
theorem q813 : (Jvm.Cond.publicMethod ({ cls := "java/lang/System$2", name := "getUTF16Char", desc := "([BI)C" } : Jvm.MethodName)) ∈ lw_tbl := lw_at lw_m4 17 rfl
theorem q814 : (Jvm.Cond.code ({ cls := "java/lang/System$2", name := "getUTF16Char", desc := "([BI)C" } : Jvm.MethodName) prog_33_method_45_code (3 : Nat) (Option.some Jvm.ClassFile.FieldType.char)) ∈ lw_all := lw_g (lw_at lw_m4 18 rfl) rfl
theorem q815 : (Jvm.Cond.methodLink "java/lang/System$2" (185 : Nat) ({ cls := "java/lang/StringUTF16", name := "getChar", desc := "([BI)C" } : Jvm.MethodName)) ∈ lw_all := lw_g (lw_at lw_m4 19 rfl) rfl
theorem q1885 : (Jvm.Cond.castable "java/lang/System$2" "java/lang/Object") ∈ lw_tbl := lw_at lw_m8 129 rfl
theorem q206 : (Jvm.Cond.arrayClass Jvm.ClassFile.FieldType.int) ∈ lw_all := lw_g (lw_at lw_m1 130 rfl) rfl
theorem q332 : (Jvm.Cond.arrayOver (Jvm.ClassFile.FieldType.object "java/lang/Object")) ∈ lw_tbl := lw_at lw_m2 16 rfl
theorem q344 : (Jvm.Cond.arrayOver (Jvm.ClassFile.FieldType.object "BridgeAuction$Network")) ∈ lw_tbl := lw_at lw_m2 28 rfl
theorem q363 : (Jvm.Cond.arrayClass Jvm.ClassFile.FieldType.byte) ∈ lw_all := lw_g (lw_at lw_m2 47 rfl) rfl
theorem q412 : (Jvm.Cond.arrayClass Jvm.ClassFile.FieldType.boolean) ∈ lw_all := lw_g (lw_at lw_m2 96 rfl) rfl
theorem q1857 : (Jvm.Cond.arrayClass Jvm.ClassFile.FieldType.long) ∈ lw_all := lw_g (lw_at lw_m8 101 rfl) rfl
theorem q1896 : (Jvm.Cond.arrayClass Jvm.ClassFile.FieldType.char) ∈ lw_all := lw_g (lw_at lw_m8 140 rfl) rfl
theorem q1897 : (Jvm.Cond.arrayClass Jvm.ClassFile.FieldType.short) ∈ lw_all := lw_g (lw_at lw_m8 141 rfl) rfl
theorem q87 : (Jvm.Cond.initialized "java/lang/System") ∈ lw_all := lw_g (lw_at lw_m1 11 rfl) rfl
theorem q338 : (Jvm.Cond.static ({ cls := "java/lang/System", name := "arraycopy", desc := "(Ljava/lang/Object;ILjava/lang/Object;II)V" } : Jvm.MethodName)) ∈ lw_all := lw_g (lw_at lw_m2 22 rfl) rfl
theorem q339 : (Jvm.Cond.native ({ cls := "java/lang/System", name := "arraycopy", desc := "(Ljava/lang/Object;ILjava/lang/Object;II)V" } : Jvm.MethodName)) ∈ lw_all := lw_g (lw_at lw_m2 23 rfl) rfl
theorem q107 : (Jvm.Cond.initialized "java/lang/Number") ∈ lw_all := lw_g (lw_at lw_m1 31 rfl) rfl
theorem q517 : (Jvm.Cond.sameMethod "[B" "java/lang/Object" "clone" "()Ljava/lang/Object;") ∈ lw_all := lw_g (lw_at lw_m2 201 rfl) rfl
theorem q520 : (Jvm.Cond.selects "[B" ({ cls := "[B", name := "clone", desc := "()Ljava/lang/Object;" } : Jvm.MethodName) ({ cls := "java/lang/Object", name := "clone", desc := "()Ljava/lang/Object;" } : Jvm.MethodName)) ∈ lw_all := lw_g (lw_at lw_m2 204 rfl) rfl
theorem q521 : (Jvm.Cond.castable "[B" "java/lang/Cloneable") ∈ lw_tbl := lw_at lw_m2 205 rfl
theorem q1893 : (Jvm.Cond.castable "[B" "java/lang/Object") ∈ lw_tbl := lw_at lw_m8 137 rfl
theorem q807 : (Jvm.Cond.interfaceMethod "jdk/internal/access/JavaLangAccess" "jdk/internal/access/JavaLangAccess" "getUTF16Char" "([BI)C") ∈ lw_tbl := lw_at lw_m4 11 rfl
theorem q808 : (Jvm.Cond.declares ({ cls := "jdk/internal/access/JavaLangAccess", name := "getUTF16Char", desc := "([BI)C" } : Jvm.MethodName)) ∈ lw_tbl := lw_at lw_m4 12 rfl
theorem q1202 : (Jvm.Cond.interfaceMethod "BridgeAuction$Command" "BridgeAuction$Command" "run" "(LBridgeAuction$Network;III)I") ∈ lw_tbl := lw_at lw_m5 166 rfl
theorem q1203 : (Jvm.Cond.declares ({ cls := "BridgeAuction$Command", name := "run", desc := "(LBridgeAuction$Network;III)I" } : Jvm.MethodName)) ∈ lw_tbl := lw_at lw_m5 167 rfl
theorem q1887 : (Jvm.Cond.sameMethod "[Ljava/lang/Object;" "java/lang/Object" "getClass" "()Ljava/lang/Class;") ∈ lw_all := lw_g (lw_at lw_m8 131 rfl) rfl
theorem q1888 : (Jvm.Cond.selects "[Ljava/lang/Object;" ({ cls := "java/lang/Object", name := "getClass", desc := "()Ljava/lang/Class;" } : Jvm.MethodName) ({ cls := "java/lang/Object", name := "getClass", desc := "()Ljava/lang/Class;" } : Jvm.MethodName)) ∈ lw_all := lw_g (lw_at lw_m8 132 rfl) rfl
theorem q1891 : (Jvm.Cond.castable "[Ljava/lang/Object;" "java/lang/Object") ∈ lw_tbl := lw_at lw_m8 135 rfl
theorem q1890 : (Jvm.Cond.castable "[I" "java/lang/Object") ∈ lw_tbl := lw_at lw_m8 134 rfl
theorem q1892 : (Jvm.Cond.castable "[LBridgeAuction$Network;" "java/lang/Object") ∈ lw_tbl := lw_at lw_m8 136 rfl
theorem q1894 : (Jvm.Cond.castable "[Z" "java/lang/Object") ∈ lw_tbl := lw_at lw_m8 138 rfl
theorem q1895 : (Jvm.Cond.castable "[J" "java/lang/Object") ∈ lw_tbl := lw_at lw_m8 139 rfl
