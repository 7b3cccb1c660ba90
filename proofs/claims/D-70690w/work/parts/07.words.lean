theorem q79 : (Jvm.Cond.initialized "InterestTakenLaw") ∈ lw_all := lw_g (lw_at lw_m1 0 rfl) rfl
set_option maxRecDepth 100000
theorem q109 : (Jvm.Cond.classLink "InterestTakenLaw" (7 : Nat) "InterestTaken") ∈ lw_all := lw_g (lw_at lw_m1 30 rfl) rfl
theorem q111 : (Jvm.Cond.methodLink "InterestTakenLaw" (9 : Nat) ({ cls := "InterestTaken", name := "<init>", desc := "()V" } : Jvm.MethodName)) ∈ lw_all := lw_g (lw_at lw_m1 32 rfl) rfl
theorem q302 : (Jvm.Cond.methodLink "InterestTakenLaw" (13 : Nat) ({ cls := "InterestTaken", name := "type", desc := "(II)I" } : Jvm.MethodName)) ∈ lw_all := lw_g (lw_at lw_m1 223 rfl) rfl
theorem q323 : (Jvm.Cond.methodLink "InterestTakenLaw" (18 : Nat) ({ cls := "InterestTaken", name := "wipe", desc := "(I)I" } : Jvm.MethodName)) ∈ lw_all := lw_g (lw_at lw_m2 4 rfl) rfl
theorem q333 : (Jvm.Cond.methodLink "InterestTakenLaw" (23 : Nat) ({ cls := "InterestTaken", name := "undo", desc := "(I)I" } : Jvm.MethodName)) ∈ lw_all := lw_g (lw_at lw_m2 14 rfl) rfl
theorem q343 : (Jvm.Cond.methodLink "InterestTakenLaw" (27 : Nat) ({ cls := "InterestTaken", name := "fault", desc := "(I)I" } : Jvm.MethodName)) ∈ lw_all := lw_g (lw_at lw_m2 24 rfl) rfl
theorem q652 : (Jvm.Cond.methodLink "InterestTakenLaw" (31 : Nat) ({ cls := "InterestTaken", name := "saver", desc := "(II)I" } : Jvm.MethodName)) ∈ lw_all := lw_g (lw_at lw_m3 93 rfl) rfl
theorem q697 : (Jvm.Cond.methodLink "InterestTakenLaw" (35 : Nat) ({ cls := "InterestTaken", name := "partner", desc := "(II)I" } : Jvm.MethodName)) ∈ lw_all := lw_g (lw_at lw_m3 138 rfl) rfl
theorem q712 : (Jvm.Cond.methodLink "InterestTakenLaw" (39 : Nat) ({ cls := "InterestTaken", name := "set", desc := "(II)I" } : Jvm.MethodName)) ∈ lw_all := lw_g (lw_at lw_m3 153 rfl) rfl
theorem q718 : (Jvm.Cond.methodLink "InterestTakenLaw" (43 : Nat) ({ cls := "InterestTaken", name := "call", desc := "(II)I" } : Jvm.MethodName)) ∈ lw_all := lw_g (lw_at lw_m3 159 rfl) rfl
theorem q729 : (Jvm.Cond.methodLink "InterestTakenLaw" (47 : Nat) ({ cls := "InterestTaken", name := "war", desc := "(I)I" } : Jvm.MethodName)) ∈ lw_all := lw_g (lw_at lw_m3 170 rfl) rfl
theorem q733 : (Jvm.Cond.methodLink "InterestTakenLaw" (51 : Nat) ({ cls := "InterestTaken", name := "back", desc := "(I)I" } : Jvm.MethodName)) ∈ lw_all := lw_g (lw_at lw_m3 174 rfl) rfl
theorem q750 : (Jvm.Cond.methodLink "InterestTakenLaw" (55 : Nat) ({ cls := "InterestTaken", name := "read", desc := "(I)I" } : Jvm.MethodName)) ∈ lw_all := lw_g (lw_at lw_m3 191 rfl) rfl
theorem q779 : (Jvm.Cond.methodLink "InterestTakenLaw" (59 : Nat) ({ cls := "InterestTaken", name := "owed", desc := "(II)I" } : Jvm.MethodName)) ∈ lw_all := lw_g (lw_at lw_m3 220 rfl) rfl
theorem q856 : (Jvm.Cond.methodLink "InterestTakenLaw" (63 : Nat) ({ cls := "InterestTaken", name := "heard", desc := "(III)I" } : Jvm.MethodName)) ∈ lw_all := lw_g (lw_at lw_m4 57 rfl) rfl
theorem q864 : (Jvm.Cond.methodLink "InterestTakenLaw" (68 : Nat) ({ cls := "InterestTaken", name := "left", desc := "(II)I" } : Jvm.MethodName)) ∈ lw_all := lw_g (lw_at lw_m4 65 rfl) rfl
theorem q868 : (Jvm.Cond.methodLink "InterestTakenLaw" (72 : Nat) ({ cls := "InterestTaken", name := "run", desc := "()I" } : Jvm.MethodName)) ∈ lw_all := lw_g (lw_at lw_m4 69 rfl) rfl
theorem q872 : (Jvm.Cond.methodLink "InterestTakenLaw" (77 : Nat) ({ cls := "InterestTaken", name := "yawn", desc := "(I)I" } : Jvm.MethodName)) ∈ lw_all := lw_g (lw_at lw_m4 73 rfl) rfl
theorem q876 : (Jvm.Cond.methodLink "InterestTakenLaw" (81 : Nat) ({ cls := "InterestTaken", name := "most", desc := "()I" } : Jvm.MethodName)) ∈ lw_all := lw_g (lw_at lw_m4 77 rfl) rfl
theorem q888 : (Jvm.Cond.methodLink "InterestTakenLaw" (85 : Nat) ({ cls := "InterestTaken", name := "hold", desc := "()I" } : Jvm.MethodName)) ∈ lw_all := lw_g (lw_at lw_m4 89 rfl) rfl
theorem q896 : (Jvm.Cond.methodLink "InterestTakenLaw" (89 : Nat) ({ cls := "InterestTaken", name := "draw", desc := "(II)I" } : Jvm.MethodName)) ∈ lw_all := lw_g (lw_at lw_m4 97 rfl) rfl
theorem q904 : (Jvm.Cond.methodLink "InterestTakenLaw" (93 : Nat) ({ cls := "InterestTaken", name := "hire", desc := "(I)I" } : Jvm.MethodName)) ∈ lw_all := lw_g (lw_at lw_m4 105 rfl) rfl
theorem q912 : (Jvm.Cond.methodLink "InterestTakenLaw" (97 : Nat) ({ cls := "InterestTaken", name := "match", desc := "()I" } : Jvm.MethodName)) ∈ lw_all := lw_g (lw_at lw_m4 113 rfl) rfl
theorem q924 : (Jvm.Cond.methodLink "InterestTakenLaw" (101 : Nat) ({ cls := "InterestTaken", name := "seen", desc := "(III)I" } : Jvm.MethodName)) ∈ lw_all := lw_g (lw_at lw_m4 125 rfl) rfl
theorem q928 : (Jvm.Cond.methodLink "InterestTakenLaw" (105 : Nat) ({ cls := "InterestTaken", name := "forget", desc := "()I" } : Jvm.MethodName)) ∈ lw_all := lw_g (lw_at lw_m4 129 rfl) rfl
theorem q933 : (Jvm.Cond.methodLink "InterestTakenLaw" (109 : Nat) ({ cls := "InterestTaken", name := "never", desc := "()I" } : Jvm.MethodName)) ∈ lw_all := lw_g (lw_at lw_m4 134 rfl) rfl
theorem q945 : (Jvm.Cond.methodLink "InterestTakenLaw" (113 : Nat) ({ cls := "InterestTaken", name := "sums", desc := "(I)I" } : Jvm.MethodName)) ∈ lw_all := lw_g (lw_at lw_m4 146 rfl) rfl
theorem q953 : (Jvm.Cond.methodLink "InterestTakenLaw" (117 : Nat) ({ cls := "InterestTaken", name := "rates", desc := "()I" } : Jvm.MethodName)) ∈ lw_all := lw_g (lw_at lw_m4 154 rfl) rfl
theorem q961 : (Jvm.Cond.methodLink "InterestTakenLaw" (121 : Nat) ({ cls := "InterestTaken", name := "ask", desc := "(I)I" } : Jvm.MethodName)) ∈ lw_all := lw_g (lw_at lw_m4 162 rfl) rfl
theorem q974 : (Jvm.Cond.methodLink "InterestTakenLaw" (125 : Nat) ({ cls := "InterestTaken", name := "peace", desc := "(II)J" } : Jvm.MethodName)) ∈ lw_all := lw_g (lw_at lw_m4 175 rfl) rfl
theorem q993 : (Jvm.Cond.methodLink "InterestTakenLaw" (130 : Nat) ({ cls := "InterestTaken", name := "term", desc := "(III)I" } : Jvm.MethodName)) ∈ lw_all := lw_g (lw_at lw_m4 194 rfl) rfl
theorem q1007 : (Jvm.Cond.methodLink "InterestTakenLaw" (134 : Nat) ({ cls := "InterestTaken", name := "sheet", desc := "(III)I" } : Jvm.MethodName)) ∈ lw_all := lw_g (lw_at lw_m4 208 rfl) rfl
theorem q1044 : (Jvm.Cond.methodLink "InterestTakenLaw" (138 : Nat) ({ cls := "InterestTaken", name := "lose", desc := "(I)I" } : Jvm.MethodName)) ∈ lw_all := lw_g (lw_at lw_m5 5 rfl) rfl
theorem q1048 : (Jvm.Cond.methodLink "InterestTakenLaw" (142 : Nat) ({ cls := "InterestTaken", name := "put", desc := "(IIII)I" } : Jvm.MethodName)) ∈ lw_all := lw_g (lw_at lw_m5 9 rfl) rfl
theorem q1089 : (Jvm.Cond.methodLink "InterestTakenLaw" (147 : Nat) ({ cls := "InterestTaken", name := "get", desc := "(III)I" } : Jvm.MethodName)) ∈ lw_all := lw_g (lw_at lw_m5 50 rfl) rfl
theorem q1098 : (Jvm.Cond.methodLink "InterestTakenLaw" (151 : Nat) ({ cls := "InterestTaken", name := "copy", desc := "(IIIII)I" } : Jvm.MethodName)) ∈ lw_all := lw_g (lw_at lw_m5 59 rfl) rfl
theorem q1104 : (Jvm.Cond.methodLink "InterestTakenLaw" (156 : Nat) ({ cls := "InterestTaken", name := "write", desc := "(II)I" } : Jvm.MethodName)) ∈ lw_all := lw_g (lw_at lw_m5 65 rfl) rfl
theorem q1109 : (Jvm.Cond.methodLink "InterestTakenLaw" (160 : Nat) ({ cls := "InterestTaken", name := "count", desc := "(I)I" } : Jvm.MethodName)) ∈ lw_all := lw_g (lw_at lw_m5 70 rfl) rfl
theorem q1124 : (Jvm.Cond.methodLink "InterestTakenLaw" (164 : Nat) ({ cls := "InterestTaken", name := "digest", desc := "()J" } : Jvm.MethodName)) ∈ lw_all := lw_g (lw_at lw_m5 85 rfl) rfl
theorem q1135 : (Jvm.Cond.classLink "InterestTakenLaw" (10 : Nat) "InterestTakenModel") ∈ lw_all := lw_g (lw_at lw_m5 96 rfl) rfl
theorem q1137 : (Jvm.Cond.methodLink "InterestTakenLaw" (12 : Nat) ({ cls := "InterestTakenModel", name := "<init>", desc := "()V" } : Jvm.MethodName)) ∈ lw_all := lw_g (lw_at lw_m5 98 rfl) rfl
theorem q1262 : (Jvm.Cond.methodLink "InterestTakenLaw" (17 : Nat) ({ cls := "InterestTakenModel", name := "type", desc := "(II)I" } : Jvm.MethodName)) ∈ lw_all := lw_g (lw_at lw_m5 223 rfl) rfl
theorem q1272 : (Jvm.Cond.methodLink "InterestTakenLaw" (22 : Nat) ({ cls := "InterestTakenModel", name := "wipe", desc := "(I)I" } : Jvm.MethodName)) ∈ lw_all := lw_g (lw_at lw_m5 233 rfl) rfl
theorem q1276 : (Jvm.Cond.methodLink "InterestTakenLaw" (26 : Nat) ({ cls := "InterestTakenModel", name := "undo", desc := "(I)I" } : Jvm.MethodName)) ∈ lw_all := lw_g (lw_at lw_m5 237 rfl) rfl
theorem q1280 : (Jvm.Cond.methodLink "InterestTakenLaw" (30 : Nat) ({ cls := "InterestTakenModel", name := "fault", desc := "(I)I" } : Jvm.MethodName)) ∈ lw_all := lw_g (lw_at lw_m6 1 rfl) rfl
theorem q1312 : (Jvm.Cond.methodLink "InterestTakenLaw" (34 : Nat) ({ cls := "InterestTakenModel", name := "saver", desc := "(II)I" } : Jvm.MethodName)) ∈ lw_all := lw_g (lw_at lw_m6 33 rfl) rfl
theorem q1328 : (Jvm.Cond.methodLink "InterestTakenLaw" (38 : Nat) ({ cls := "InterestTakenModel", name := "partner", desc := "(II)I" } : Jvm.MethodName)) ∈ lw_all := lw_g (lw_at lw_m6 49 rfl) rfl
theorem q1336 : (Jvm.Cond.methodLink "InterestTakenLaw" (42 : Nat) ({ cls := "InterestTakenModel", name := "set", desc := "(II)I" } : Jvm.MethodName)) ∈ lw_all := lw_g (lw_at lw_m6 57 rfl) rfl
theorem q1340 : (Jvm.Cond.methodLink "InterestTakenLaw" (46 : Nat) ({ cls := "InterestTakenModel", name := "call", desc := "(II)I" } : Jvm.MethodName)) ∈ lw_all := lw_g (lw_at lw_m6 61 rfl) rfl
theorem q1347 : (Jvm.Cond.methodLink "InterestTakenLaw" (50 : Nat) ({ cls := "InterestTakenModel", name := "war", desc := "(I)I" } : Jvm.MethodName)) ∈ lw_all := lw_g (lw_at lw_m6 68 rfl) rfl
theorem q1351 : (Jvm.Cond.methodLink "InterestTakenLaw" (54 : Nat) ({ cls := "InterestTakenModel", name := "back", desc := "(I)I" } : Jvm.MethodName)) ∈ lw_all := lw_g (lw_at lw_m6 72 rfl) rfl
theorem q1355 : (Jvm.Cond.methodLink "InterestTakenLaw" (58 : Nat) ({ cls := "InterestTakenModel", name := "read", desc := "(I)I" } : Jvm.MethodName)) ∈ lw_all := lw_g (lw_at lw_m6 76 rfl) rfl
theorem q1367 : (Jvm.Cond.methodLink "InterestTakenLaw" (62 : Nat) ({ cls := "InterestTakenModel", name := "owed", desc := "(II)I" } : Jvm.MethodName)) ∈ lw_all := lw_g (lw_at lw_m6 88 rfl) rfl
theorem q1410 : (Jvm.Cond.methodLink "InterestTakenLaw" (67 : Nat) ({ cls := "InterestTakenModel", name := "heard", desc := "(III)I" } : Jvm.MethodName)) ∈ lw_all := lw_g (lw_at lw_m6 131 rfl) rfl
theorem q1418 : (Jvm.Cond.methodLink "InterestTakenLaw" (71 : Nat) ({ cls := "InterestTakenModel", name := "left", desc := "(II)I" } : Jvm.MethodName)) ∈ lw_all := lw_g (lw_at lw_m6 139 rfl) rfl
theorem q1426 : (Jvm.Cond.methodLink "InterestTakenLaw" (76 : Nat) ({ cls := "InterestTakenModel", name := "run", desc := "()I" } : Jvm.MethodName)) ∈ lw_all := lw_g (lw_at lw_m6 147 rfl) rfl
theorem q1434 : (Jvm.Cond.methodLink "InterestTakenLaw" (80 : Nat) ({ cls := "InterestTakenModel", name := "yawn", desc := "(I)I" } : Jvm.MethodName)) ∈ lw_all := lw_g (lw_at lw_m6 155 rfl) rfl
theorem q1442 : (Jvm.Cond.methodLink "InterestTakenLaw" (84 : Nat) ({ cls := "InterestTakenModel", name := "most", desc := "()I" } : Jvm.MethodName)) ∈ lw_all := lw_g (lw_at lw_m6 163 rfl) rfl
theorem q1454 : (Jvm.Cond.methodLink "InterestTakenLaw" (88 : Nat) ({ cls := "InterestTakenModel", name := "hold", desc := "()I" } : Jvm.MethodName)) ∈ lw_all := lw_g (lw_at lw_m6 175 rfl) rfl
theorem q1462 : (Jvm.Cond.methodLink "InterestTakenLaw" (92 : Nat) ({ cls := "InterestTakenModel", name := "draw", desc := "(II)I" } : Jvm.MethodName)) ∈ lw_all := lw_g (lw_at lw_m6 183 rfl) rfl
theorem q1470 : (Jvm.Cond.methodLink "InterestTakenLaw" (96 : Nat) ({ cls := "InterestTakenModel", name := "hire", desc := "(I)I" } : Jvm.MethodName)) ∈ lw_all := lw_g (lw_at lw_m6 191 rfl) rfl
theorem q1478 : (Jvm.Cond.methodLink "InterestTakenLaw" (100 : Nat) ({ cls := "InterestTakenModel", name := "match", desc := "()I" } : Jvm.MethodName)) ∈ lw_all := lw_g (lw_at lw_m6 199 rfl) rfl
theorem q1486 : (Jvm.Cond.methodLink "InterestTakenLaw" (104 : Nat) ({ cls := "InterestTakenModel", name := "seen", desc := "(III)I" } : Jvm.MethodName)) ∈ lw_all := lw_g (lw_at lw_m6 207 rfl) rfl
theorem q1490 : (Jvm.Cond.methodLink "InterestTakenLaw" (108 : Nat) ({ cls := "InterestTakenModel", name := "forget", desc := "()I" } : Jvm.MethodName)) ∈ lw_all := lw_g (lw_at lw_m6 211 rfl) rfl
theorem q1494 : (Jvm.Cond.methodLink "InterestTakenLaw" (112 : Nat) ({ cls := "InterestTakenModel", name := "never", desc := "()I" } : Jvm.MethodName)) ∈ lw_all := lw_g (lw_at lw_m6 215 rfl) rfl
theorem q1506 : (Jvm.Cond.methodLink "InterestTakenLaw" (116 : Nat) ({ cls := "InterestTakenModel", name := "sums", desc := "(I)I" } : Jvm.MethodName)) ∈ lw_all := lw_g (lw_at lw_m6 227 rfl) rfl
theorem q1514 : (Jvm.Cond.methodLink "InterestTakenLaw" (120 : Nat) ({ cls := "InterestTakenModel", name := "rates", desc := "()I" } : Jvm.MethodName)) ∈ lw_all := lw_g (lw_at lw_m6 235 rfl) rfl
theorem q1522 : (Jvm.Cond.methodLink "InterestTakenLaw" (124 : Nat) ({ cls := "InterestTakenModel", name := "ask", desc := "(I)I" } : Jvm.MethodName)) ∈ lw_all := lw_g (lw_at lw_m7 3 rfl) rfl
theorem q1530 : (Jvm.Cond.methodLink "InterestTakenLaw" (129 : Nat) ({ cls := "InterestTakenModel", name := "peace", desc := "(II)J" } : Jvm.MethodName)) ∈ lw_all := lw_g (lw_at lw_m7 11 rfl) rfl
theorem q1545 : (Jvm.Cond.methodLink "InterestTakenLaw" (133 : Nat) ({ cls := "InterestTakenModel", name := "term", desc := "(III)I" } : Jvm.MethodName)) ∈ lw_all := lw_g (lw_at lw_m7 26 rfl) rfl
theorem q1554 : (Jvm.Cond.methodLink "InterestTakenLaw" (137 : Nat) ({ cls := "InterestTakenModel", name := "sheet", desc := "(III)I" } : Jvm.MethodName)) ∈ lw_all := lw_g (lw_at lw_m7 35 rfl) rfl
theorem q1558 : (Jvm.Cond.methodLink "InterestTakenLaw" (141 : Nat) ({ cls := "InterestTakenModel", name := "lose", desc := "(I)I" } : Jvm.MethodName)) ∈ lw_all := lw_g (lw_at lw_m7 39 rfl) rfl
theorem q1562 : (Jvm.Cond.methodLink "InterestTakenLaw" (146 : Nat) ({ cls := "InterestTakenModel", name := "put", desc := "(IIII)I" } : Jvm.MethodName)) ∈ lw_all := lw_g (lw_at lw_m7 43 rfl) rfl
theorem q1574 : (Jvm.Cond.methodLink "InterestTakenLaw" (150 : Nat) ({ cls := "InterestTakenModel", name := "get", desc := "(III)I" } : Jvm.MethodName)) ∈ lw_all := lw_g (lw_at lw_m7 55 rfl) rfl
theorem q1579 : (Jvm.Cond.methodLink "InterestTakenLaw" (155 : Nat) ({ cls := "InterestTakenModel", name := "copy", desc := "(IIIII)I" } : Jvm.MethodName)) ∈ lw_all := lw_g (lw_at lw_m7 60 rfl) rfl
theorem q1583 : (Jvm.Cond.methodLink "InterestTakenLaw" (159 : Nat) ({ cls := "InterestTakenModel", name := "write", desc := "(II)I" } : Jvm.MethodName)) ∈ lw_all := lw_g (lw_at lw_m7 64 rfl) rfl
theorem q1587 : (Jvm.Cond.methodLink "InterestTakenLaw" (163 : Nat) ({ cls := "InterestTakenModel", name := "count", desc := "(I)I" } : Jvm.MethodName)) ∈ lw_all := lw_g (lw_at lw_m7 68 rfl) rfl
theorem q1595 : (Jvm.Cond.methodLink "InterestTakenLaw" (168 : Nat) ({ cls := "InterestTakenModel", name := "digest", desc := "()J" } : Jvm.MethodName)) ∈ lw_all := lw_g (lw_at lw_m7 76 rfl) rfl

theorem q1638 : (Jvm.Cond.castable "[B" "java/lang/Object") ∈ lw_tbl := lw_at lw_m7 119 rfl
set_option maxRecDepth 100000

theorem q1640 : (Jvm.Cond.castable "[I" "java/lang/Object") ∈ lw_tbl := lw_at lw_m7 121 rfl
set_option maxRecDepth 100000

theorem q1641 : (Jvm.Cond.castable "[LInterestTaken$Sheet;" "java/lang/Object") ∈ lw_tbl := lw_at lw_m7 122 rfl
set_option maxRecDepth 100000

theorem q1645 : (Jvm.Cond.castable "[LInterestTaken$Way;" "java/lang/Object") ∈ lw_tbl := lw_at lw_m7 126 rfl
set_option maxRecDepth 100000

theorem q1635 : (Jvm.Cond.sameMethod "[Ljava/lang/Object;" "java/lang/Object" "getClass" "()Ljava/lang/Class;") ∈ lw_all := lw_g (lw_at lw_m7 116 rfl) rfl
set_option maxRecDepth 100000
theorem q1636 : (Jvm.Cond.selects "[Ljava/lang/Object;" ({ cls := "java/lang/Object", name := "getClass", desc := "()Ljava/lang/Class;" } : Jvm.MethodName) ({ cls := "java/lang/Object", name := "getClass", desc := "()Ljava/lang/Class;" } : Jvm.MethodName)) ∈ lw_all := lw_g (lw_at lw_m7 117 rfl) rfl
theorem q1643 : (Jvm.Cond.castable "[Ljava/lang/Object;" "java/lang/Object") ∈ lw_tbl := lw_at lw_m7 124 rfl

theorem q1644 : (Jvm.Cond.castable "[S" "java/lang/Object") ∈ lw_tbl := lw_at lw_m7 125 rfl
set_option maxRecDepth 100000

theorem q1642 : (Jvm.Cond.castable "[Z" "java/lang/Object") ∈ lw_tbl := lw_at lw_m7 123 rfl
set_option maxRecDepth 100000

theorem q1639 : (Jvm.Cond.castable "[[I" "java/lang/Object") ∈ lw_tbl := lw_at lw_m7 120 rfl
set_option maxRecDepth 100000

theorem q102 : (Jvm.Cond.initialized "java/lang/System") ∈ lw_all := lw_g (lw_at lw_m1 23 rfl) rfl
set_option maxRecDepth 100000
theorem q647 : (Jvm.Cond.static ({ cls := "java/lang/System", name := "arraycopy", desc := "(Ljava/lang/Object;ILjava/lang/Object;II)V" } : Jvm.MethodName)) ∈ lw_all := lw_g (lw_at lw_m3 88 rfl) rfl
theorem q648 : (Jvm.Cond.native ({ cls := "java/lang/System", name := "arraycopy", desc := "(Ljava/lang/Object;ILjava/lang/Object;II)V" } : Jvm.MethodName)) ∈ lw_all := lw_g (lw_at lw_m3 89 rfl) rfl

theorem q178 : (Jvm.Cond.arrayClass Jvm.ClassFile.FieldType.byte) ∈ lw_all := lw_g (lw_at lw_m1 99 rfl) rfl
set_option maxRecDepth 100000
theorem q196 : (Jvm.Cond.arrayOver (Jvm.ClassFile.FieldType.array Jvm.ClassFile.FieldType.int)) ∈ lw_tbl := lw_at lw_m1 117 rfl
theorem q212 : (Jvm.Cond.arrayClass Jvm.ClassFile.FieldType.int) ∈ lw_all := lw_g (lw_at lw_m1 133 rfl) rfl
theorem q214 : (Jvm.Cond.arrayOver (Jvm.ClassFile.FieldType.object "InterestTaken$Sheet")) ∈ lw_tbl := lw_at lw_m1 135 rfl
theorem q225 : (Jvm.Cond.arrayClass Jvm.ClassFile.FieldType.boolean) ∈ lw_all := lw_g (lw_at lw_m1 146 rfl) rfl
theorem q643 : (Jvm.Cond.arrayOver (Jvm.ClassFile.FieldType.object "java/lang/Object")) ∈ lw_tbl := lw_at lw_m3 84 rfl
theorem q1043 : (Jvm.Cond.arrayClass Jvm.ClassFile.FieldType.short) ∈ lw_all := lw_g (lw_at lw_m5 4 rfl) rfl
