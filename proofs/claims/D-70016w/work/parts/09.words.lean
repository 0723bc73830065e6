theorem q59 : (Jvm.Cond.initialized "WindCarverLaw") ∈ lw_all := lw_g (lw_at lw_m1 0 rfl) rfl
set_option maxRecDepth 100000
theorem q91 : (Jvm.Cond.classLink "WindCarverLaw" (7 : Nat) "WindCarver") ∈ lw_all := lw_g (lw_at lw_m1 32 rfl) rfl
theorem q93 : (Jvm.Cond.methodLink "WindCarverLaw" (9 : Nat) ({ cls := "WindCarver", name := "<init>", desc := "()V" } : Jvm.MethodName)) ∈ lw_all := lw_g (lw_at lw_m1 34 rfl) rfl
theorem q239 : (Jvm.Cond.methodLink "WindCarverLaw" (13 : Nat) ({ cls := "WindCarver", name := "row", desc := "(III)I" } : Jvm.MethodName)) ∈ lw_all := lw_g (lw_at lw_m1 180 rfl) rfl
theorem q351 : (Jvm.Cond.methodLink "WindCarverLaw" (18 : Nat) ({ cls := "WindCarver", name := "set", desc := "(III)I" } : Jvm.MethodName)) ∈ lw_all := lw_g (lw_at lw_m2 52 rfl) rfl
theorem q410 : (Jvm.Cond.methodLink "WindCarverLaw" (22 : Nat) ({ cls := "WindCarver", name := "copy", desc := "(IIIII)I" } : Jvm.MethodName)) ∈ lw_all := lw_g (lw_at lw_m2 111 rfl) rfl
theorem q432 : (Jvm.Cond.methodLink "WindCarverLaw" (27 : Nat) ({ cls := "WindCarver", name := "drop", desc := "(I)I" } : Jvm.MethodName)) ∈ lw_all := lw_g (lw_at lw_m2 133 rfl) rfl
theorem q440 : (Jvm.Cond.methodLink "WindCarverLaw" (32 : Nat) ({ cls := "WindCarver", name := "feed", desc := "(I)I" } : Jvm.MethodName)) ∈ lw_all := lw_g (lw_at lw_m2 141 rfl) rfl
theorem q446 : (Jvm.Cond.methodLink "WindCarverLaw" (36 : Nat) ({ cls := "WindCarver", name := "pass", desc := "()I" } : Jvm.MethodName)) ∈ lw_all := lw_g (lw_at lw_m2 147 rfl) rfl
theorem q695 : (Jvm.Cond.methodLink "WindCarverLaw" (41 : Nat) ({ cls := "WindCarver", name := "fault", desc := "()I" } : Jvm.MethodName)) ∈ lw_all := lw_g (lw_at lw_m3 156 rfl) rfl
theorem q699 : (Jvm.Cond.methodLink "WindCarverLaw" (45 : Nat) ({ cls := "WindCarver", name := "setUp", desc := "(III)I" } : Jvm.MethodName)) ∈ lw_all := lw_g (lw_at lw_m3 160 rfl) rfl
theorem q719 : (Jvm.Cond.methodLink "WindCarverLaw" (49 : Nat) ({ cls := "WindCarver", name := "take", desc := "(I)I" } : Jvm.MethodName)) ∈ lw_all := lw_g (lw_at lw_m3 180 rfl) rfl
theorem q727 : (Jvm.Cond.methodLink "WindCarverLaw" (53 : Nat) ({ cls := "WindCarver", name := "turn", desc := "(I)I" } : Jvm.MethodName)) ∈ lw_all := lw_g (lw_at lw_m3 188 rfl) rfl
theorem q749 : (Jvm.Cond.methodLink "WindCarverLaw" (57 : Nat) ({ cls := "WindCarver", name := "gust", desc := "(II)I" } : Jvm.MethodName)) ∈ lw_all := lw_g (lw_at lw_m3 210 rfl) rfl
theorem q758 : (Jvm.Cond.methodLink "WindCarverLaw" (62 : Nat) ({ cls := "WindCarver", name := "hours", desc := "(I)I" } : Jvm.MethodName)) ∈ lw_all := lw_g (lw_at lw_m3 219 rfl) rfl
theorem q824 : (Jvm.Cond.methodLink "WindCarverLaw" (66 : Nat) ({ cls := "WindCarver", name := "undo", desc := "()I" } : Jvm.MethodName)) ∈ lw_all := lw_g (lw_at lw_m4 45 rfl) rfl
theorem q828 : (Jvm.Cond.methodLink "WindCarverLaw" (70 : Nat) ({ cls := "WindCarver", name := "cell", desc := "(II)I" } : Jvm.MethodName)) ∈ lw_all := lw_g (lw_at lw_m4 49 rfl) rfl
theorem q843 : (Jvm.Cond.methodLink "WindCarverLaw" (74 : Nat) ({ cls := "WindCarver", name := "wind", desc := "(II)I" } : Jvm.MethodName)) ∈ lw_all := lw_g (lw_at lw_m4 64 rfl) rfl
theorem q850 : (Jvm.Cond.methodLink "WindCarverLaw" (78 : Nat) ({ cls := "WindCarver", name := "felt", desc := "(II)I" } : Jvm.MethodName)) ∈ lw_all := lw_g (lw_at lw_m4 71 rfl) rfl
theorem q862 : (Jvm.Cond.methodLink "WindCarverLaw" (82 : Nat) ({ cls := "WindCarver", name := "lost", desc := "(I)I" } : Jvm.MethodName)) ∈ lw_all := lw_g (lw_at lw_m4 83 rfl) rfl
theorem q866 : (Jvm.Cond.methodLink "WindCarverLaw" (86 : Nat) ({ cls := "WindCarver", name := "leaves", desc := "(II)I" } : Jvm.MethodName)) ∈ lw_all := lw_g (lw_at lw_m4 87 rfl) rfl
theorem q870 : (Jvm.Cond.methodLink "WindCarverLaw" (90 : Nat) ({ cls := "WindCarver", name := "breaks", desc := "(I)I" } : Jvm.MethodName)) ∈ lw_all := lw_g (lw_at lw_m4 91 rfl) rfl
theorem q878 : (Jvm.Cond.methodLink "WindCarverLaw" (94 : Nat) ({ cls := "WindCarver", name := "stands", desc := "(II)I" } : Jvm.MethodName)) ∈ lw_all := lw_g (lw_at lw_m4 99 rfl) rfl
theorem q898 : (Jvm.Cond.methodLink "WindCarverLaw" (98 : Nat) ({ cls := "WindCarver", name := "walls", desc := "(III)I" } : Jvm.MethodName)) ∈ lw_all := lw_g (lw_at lw_m4 119 rfl) rfl
theorem q911 : (Jvm.Cond.methodLink "WindCarverLaw" (102 : Nat) ({ cls := "WindCarver", name := "hidden", desc := "(IIII)I" } : Jvm.MethodName)) ∈ lw_all := lw_g (lw_at lw_m4 132 rfl) rfl
theorem q919 : (Jvm.Cond.methodLink "WindCarverLaw" (107 : Nat) ({ cls := "WindCarver", name := "most", desc := "(II)I" } : Jvm.MethodName)) ∈ lw_all := lw_g (lw_at lw_m4 140 rfl) rfl
theorem q924 : (Jvm.Cond.methodLink "WindCarverLaw" (111 : Nat) ({ cls := "WindCarver", name := "lots", desc := "(IIII)I" } : Jvm.MethodName)) ∈ lw_all := lw_g (lw_at lw_m4 145 rfl) rfl
theorem q937 : (Jvm.Cond.methodLink "WindCarverLaw" (115 : Nat) ({ cls := "WindCarver", name := "image", desc := "(I)I" } : Jvm.MethodName)) ∈ lw_all := lw_g (lw_at lw_m4 158 rfl) rfl
theorem q941 : (Jvm.Cond.methodLink "WindCarverLaw" (119 : Nat) ({ cls := "WindCarver", name := "restore", desc := "(I)I" } : Jvm.MethodName)) ∈ lw_all := lw_g (lw_at lw_m4 162 rfl) rfl
theorem q945 : (Jvm.Cond.methodLink "WindCarverLaw" (123 : Nat) ({ cls := "WindCarver", name := "kind", desc := "(I)I" } : Jvm.MethodName)) ∈ lw_all := lw_g (lw_at lw_m4 166 rfl) rfl
theorem q949 : (Jvm.Cond.methodLink "WindCarverLaw" (127 : Nat) ({ cls := "WindCarver", name := "as", desc := "(II)I" } : Jvm.MethodName)) ∈ lw_all := lw_g (lw_at lw_m4 170 rfl) rfl
theorem q979 : (Jvm.Cond.methodLink "WindCarverLaw" (131 : Nat) ({ cls := "WindCarver", name := "ask", desc := "(II)I" } : Jvm.MethodName)) ∈ lw_all := lw_g (lw_at lw_m4 200 rfl) rfl
theorem q1094 : (Jvm.Cond.methodLink "WindCarverLaw" (135 : Nat) ({ cls := "WindCarver", name := "trace", desc := "(I)I" } : Jvm.MethodName)) ∈ lw_all := lw_g (lw_at lw_m5 75 rfl) rfl
theorem q1098 : (Jvm.Cond.methodLink "WindCarverLaw" (139 : Nat) ({ cls := "WindCarver", name := "count", desc := "(I)I" } : Jvm.MethodName)) ∈ lw_all := lw_g (lw_at lw_m5 79 rfl) rfl
theorem q1106 : (Jvm.Cond.methodLink "WindCarverLaw" (143 : Nat) ({ cls := "WindCarver", name := "status", desc := "()I" } : Jvm.MethodName)) ∈ lw_all := lw_g (lw_at lw_m5 87 rfl) rfl
theorem q1110 : (Jvm.Cond.classLink "WindCarverLaw" (10 : Nat) "WindCarverModel") ∈ lw_all := lw_g (lw_at lw_m5 91 rfl) rfl
theorem q1112 : (Jvm.Cond.methodLink "WindCarverLaw" (12 : Nat) ({ cls := "WindCarverModel", name := "<init>", desc := "()V" } : Jvm.MethodName)) ∈ lw_all := lw_g (lw_at lw_m5 93 rfl) rfl
theorem q1202 : (Jvm.Cond.methodLink "WindCarverLaw" (17 : Nat) ({ cls := "WindCarverModel", name := "row", desc := "(III)I" } : Jvm.MethodName)) ∈ lw_all := lw_g (lw_at lw_m5 183 rfl) rfl
theorem q1224 : (Jvm.Cond.methodLink "WindCarverLaw" (21 : Nat) ({ cls := "WindCarverModel", name := "set", desc := "(III)I" } : Jvm.MethodName)) ∈ lw_all := lw_g (lw_at lw_m5 205 rfl) rfl
theorem q1231 : (Jvm.Cond.methodLink "WindCarverLaw" (26 : Nat) ({ cls := "WindCarverModel", name := "copy", desc := "(IIIII)I" } : Jvm.MethodName)) ∈ lw_all := lw_g (lw_at lw_m5 212 rfl) rfl
theorem q1235 : (Jvm.Cond.methodLink "WindCarverLaw" (31 : Nat) ({ cls := "WindCarverModel", name := "drop", desc := "(I)I" } : Jvm.MethodName)) ∈ lw_all := lw_g (lw_at lw_m5 216 rfl) rfl
theorem q1239 : (Jvm.Cond.methodLink "WindCarverLaw" (35 : Nat) ({ cls := "WindCarverModel", name := "feed", desc := "(I)I" } : Jvm.MethodName)) ∈ lw_all := lw_g (lw_at lw_m5 220 rfl) rfl
theorem q1245 : (Jvm.Cond.methodLink "WindCarverLaw" (40 : Nat) ({ cls := "WindCarverModel", name := "pass", desc := "()I" } : Jvm.MethodName)) ∈ lw_all := lw_g (lw_at lw_m5 226 rfl) rfl
theorem q1286 : (Jvm.Cond.methodLink "WindCarverLaw" (44 : Nat) ({ cls := "WindCarverModel", name := "fault", desc := "()I" } : Jvm.MethodName)) ∈ lw_all := lw_g (lw_at lw_m6 27 rfl) rfl
theorem q1290 : (Jvm.Cond.methodLink "WindCarverLaw" (48 : Nat) ({ cls := "WindCarverModel", name := "setUp", desc := "(III)I" } : Jvm.MethodName)) ∈ lw_all := lw_g (lw_at lw_m6 31 rfl) rfl
theorem q1313 : (Jvm.Cond.methodLink "WindCarverLaw" (52 : Nat) ({ cls := "WindCarverModel", name := "take", desc := "(I)I" } : Jvm.MethodName)) ∈ lw_all := lw_g (lw_at lw_m6 54 rfl) rfl
theorem q1321 : (Jvm.Cond.methodLink "WindCarverLaw" (56 : Nat) ({ cls := "WindCarverModel", name := "turn", desc := "(I)I" } : Jvm.MethodName)) ∈ lw_all := lw_g (lw_at lw_m6 62 rfl) rfl
theorem q1325 : (Jvm.Cond.methodLink "WindCarverLaw" (61 : Nat) ({ cls := "WindCarverModel", name := "gust", desc := "(II)I" } : Jvm.MethodName)) ∈ lw_all := lw_g (lw_at lw_m6 66 rfl) rfl
theorem q1334 : (Jvm.Cond.methodLink "WindCarverLaw" (65 : Nat) ({ cls := "WindCarverModel", name := "hours", desc := "(I)I" } : Jvm.MethodName)) ∈ lw_all := lw_g (lw_at lw_m6 75 rfl) rfl
theorem q1351 : (Jvm.Cond.methodLink "WindCarverLaw" (69 : Nat) ({ cls := "WindCarverModel", name := "undo", desc := "()I" } : Jvm.MethodName)) ∈ lw_all := lw_g (lw_at lw_m6 92 rfl) rfl
theorem q1355 : (Jvm.Cond.methodLink "WindCarverLaw" (73 : Nat) ({ cls := "WindCarverModel", name := "cell", desc := "(II)I" } : Jvm.MethodName)) ∈ lw_all := lw_g (lw_at lw_m6 96 rfl) rfl
theorem q1364 : (Jvm.Cond.methodLink "WindCarverLaw" (77 : Nat) ({ cls := "WindCarverModel", name := "wind", desc := "(II)I" } : Jvm.MethodName)) ∈ lw_all := lw_g (lw_at lw_m6 105 rfl) rfl
theorem q1368 : (Jvm.Cond.methodLink "WindCarverLaw" (81 : Nat) ({ cls := "WindCarverModel", name := "felt", desc := "(II)I" } : Jvm.MethodName)) ∈ lw_all := lw_g (lw_at lw_m6 109 rfl) rfl
theorem q1385 : (Jvm.Cond.methodLink "WindCarverLaw" (85 : Nat) ({ cls := "WindCarverModel", name := "lost", desc := "(I)I" } : Jvm.MethodName)) ∈ lw_all := lw_g (lw_at lw_m6 126 rfl) rfl
theorem q1389 : (Jvm.Cond.methodLink "WindCarverLaw" (89 : Nat) ({ cls := "WindCarverModel", name := "leaves", desc := "(II)I" } : Jvm.MethodName)) ∈ lw_all := lw_g (lw_at lw_m6 130 rfl) rfl
theorem q1393 : (Jvm.Cond.methodLink "WindCarverLaw" (93 : Nat) ({ cls := "WindCarverModel", name := "breaks", desc := "(I)I" } : Jvm.MethodName)) ∈ lw_all := lw_g (lw_at lw_m6 134 rfl) rfl
theorem q1400 : (Jvm.Cond.methodLink "WindCarverLaw" (97 : Nat) ({ cls := "WindCarverModel", name := "stands", desc := "(II)I" } : Jvm.MethodName)) ∈ lw_all := lw_g (lw_at lw_m6 141 rfl) rfl
theorem q1408 : (Jvm.Cond.methodLink "WindCarverLaw" (101 : Nat) ({ cls := "WindCarverModel", name := "walls", desc := "(III)I" } : Jvm.MethodName)) ∈ lw_all := lw_g (lw_at lw_m6 149 rfl) rfl
theorem q1417 : (Jvm.Cond.methodLink "WindCarverLaw" (106 : Nat) ({ cls := "WindCarverModel", name := "hidden", desc := "(IIII)I" } : Jvm.MethodName)) ∈ lw_all := lw_g (lw_at lw_m6 158 rfl) rfl
theorem q1421 : (Jvm.Cond.methodLink "WindCarverLaw" (110 : Nat) ({ cls := "WindCarverModel", name := "most", desc := "(II)I" } : Jvm.MethodName)) ∈ lw_all := lw_g (lw_at lw_m6 162 rfl) rfl
theorem q1425 : (Jvm.Cond.methodLink "WindCarverLaw" (114 : Nat) ({ cls := "WindCarverModel", name := "lots", desc := "(IIII)I" } : Jvm.MethodName)) ∈ lw_all := lw_g (lw_at lw_m6 166 rfl) rfl
theorem q1430 : (Jvm.Cond.methodLink "WindCarverLaw" (118 : Nat) ({ cls := "WindCarverModel", name := "image", desc := "(I)I" } : Jvm.MethodName)) ∈ lw_all := lw_g (lw_at lw_m6 171 rfl) rfl
theorem q1434 : (Jvm.Cond.methodLink "WindCarverLaw" (122 : Nat) ({ cls := "WindCarverModel", name := "restore", desc := "(I)I" } : Jvm.MethodName)) ∈ lw_all := lw_g (lw_at lw_m6 175 rfl) rfl
theorem q1438 : (Jvm.Cond.methodLink "WindCarverLaw" (126 : Nat) ({ cls := "WindCarverModel", name := "kind", desc := "(I)I" } : Jvm.MethodName)) ∈ lw_all := lw_g (lw_at lw_m6 179 rfl) rfl
theorem q1442 : (Jvm.Cond.methodLink "WindCarverLaw" (130 : Nat) ({ cls := "WindCarverModel", name := "as", desc := "(II)I" } : Jvm.MethodName)) ∈ lw_all := lw_g (lw_at lw_m6 183 rfl) rfl
theorem q1449 : (Jvm.Cond.methodLink "WindCarverLaw" (134 : Nat) ({ cls := "WindCarverModel", name := "ask", desc := "(II)I" } : Jvm.MethodName)) ∈ lw_all := lw_g (lw_at lw_m6 190 rfl) rfl
theorem q1485 : (Jvm.Cond.methodLink "WindCarverLaw" (138 : Nat) ({ cls := "WindCarverModel", name := "trace", desc := "(I)I" } : Jvm.MethodName)) ∈ lw_all := lw_g (lw_at lw_m6 226 rfl) rfl
theorem q1489 : (Jvm.Cond.methodLink "WindCarverLaw" (142 : Nat) ({ cls := "WindCarverModel", name := "count", desc := "(I)I" } : Jvm.MethodName)) ∈ lw_all := lw_g (lw_at lw_m6 230 rfl) rfl
theorem q1493 : (Jvm.Cond.methodLink "WindCarverLaw" (146 : Nat) ({ cls := "WindCarverModel", name := "status", desc := "()I" } : Jvm.MethodName)) ∈ lw_all := lw_g (lw_at lw_m6 234 rfl) rfl
theorem q1070 : (Jvm.Cond.interfaceMethod "WindCarver$Held" "WindCarver$Held" "felt" "()I") ∈ lw_tbl := lw_at lw_m5 51 rfl
set_option maxRecDepth 100000
theorem q1071 : (Jvm.Cond.declares ({ cls := "WindCarver$Held", name := "felt", desc := "()I" } : Jvm.MethodName)) ∈ lw_tbl := lw_at lw_m5 52 rfl
theorem q76 : (Jvm.Cond.initialized "java/lang/System") ∈ lw_all := lw_g (lw_at lw_m1 17 rfl) rfl
set_option maxRecDepth 100000
theorem q430 : (Jvm.Cond.static ({ cls := "java/lang/System", name := "arraycopy", desc := "(Ljava/lang/Object;ILjava/lang/Object;II)V" } : Jvm.MethodName)) ∈ lw_all := lw_g (lw_at lw_m2 131 rfl) rfl
theorem q431 : (Jvm.Cond.native ({ cls := "java/lang/System", name := "arraycopy", desc := "(Ljava/lang/Object;ILjava/lang/Object;II)V" } : Jvm.MethodName)) ∈ lw_all := lw_g (lw_at lw_m2 132 rfl) rfl
