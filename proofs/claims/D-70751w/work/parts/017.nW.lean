theorem q65 : (Jvm.Cond.initialized "MoodFareLaw") ∈ lw_all := lw_g (lw_at lw_m1 0 rfl) rfl
set_option maxRecDepth 100000
theorem q109 : (Jvm.Cond.classLink "MoodFareLaw" (7 : Nat) "MoodFare") ∈ lw_all := lw_g (lw_at lw_m1 44 rfl) rfl
theorem q111 : (Jvm.Cond.methodLink "MoodFareLaw" (9 : Nat) ({ cls := "MoodFare", name := "<init>", desc := "()V" } : Jvm.MethodName)) ∈ lw_all := lw_g (lw_at lw_m1 46 rfl) rfl
theorem q293 : (Jvm.Cond.methodLink "MoodFareLaw" (13 : Nat) ({ cls := "MoodFare", name := "row", desc := "(III)I" } : Jvm.MethodName)) ∈ lw_all := lw_g (lw_at lw_m1 228 rfl) rfl
theorem q405 : (Jvm.Cond.methodLink "MoodFareLaw" (18 : Nat) ({ cls := "MoodFare", name := "set", desc := "(III)I" } : Jvm.MethodName)) ∈ lw_all := lw_g (lw_at lw_m2 100 rfl) rfl
theorem q464 : (Jvm.Cond.methodLink "MoodFareLaw" (22 : Nat) ({ cls := "MoodFare", name := "copy", desc := "(IIIII)I" } : Jvm.MethodName)) ∈ lw_all := lw_g (lw_at lw_m2 159 rfl) rfl
theorem q486 : (Jvm.Cond.methodLink "MoodFareLaw" (27 : Nat) ({ cls := "MoodFare", name := "drop", desc := "(I)I" } : Jvm.MethodName)) ∈ lw_all := lw_g (lw_at lw_m2 181 rfl) rfl
theorem q494 : (Jvm.Cond.methodLink "MoodFareLaw" (32 : Nat) ({ cls := "MoodFare", name := "feed", desc := "(I)I" } : Jvm.MethodName)) ∈ lw_all := lw_g (lw_at lw_m2 189 rfl) rfl
theorem q500 : (Jvm.Cond.methodLink "MoodFareLaw" (36 : Nat) ({ cls := "MoodFare", name := "town", desc := "()I" } : Jvm.MethodName)) ∈ lw_all := lw_g (lw_at lw_m2 195 rfl) rfl
theorem q879 : (Jvm.Cond.methodLink "MoodFareLaw" (41 : Nat) ({ cls := "MoodFare", name := "fault", desc := "()I" } : Jvm.MethodName)) ∈ lw_all := lw_g (lw_at lw_m4 94 rfl) rfl
theorem q883 : (Jvm.Cond.methodLink "MoodFareLaw" (45 : Nat) ({ cls := "MoodFare", name := "ride", desc := "(I)I" } : Jvm.MethodName)) ∈ lw_all := lw_g (lw_at lw_m4 98 rfl) rfl
theorem q952 : (Jvm.Cond.methodLink "MoodFareLaw" (49 : Nat) ({ cls := "MoodFare", name := "lesson", desc := "(II)I" } : Jvm.MethodName)) ∈ lw_all := lw_g (lw_at lw_m4 167 rfl) rfl
theorem q962 : (Jvm.Cond.methodLink "MoodFareLaw" (54 : Nat) ({ cls := "MoodFare", name := "reset", desc := "()I" } : Jvm.MethodName)) ∈ lw_all := lw_g (lw_at lw_m4 177 rfl) rfl
theorem q970 : (Jvm.Cond.methodLink "MoodFareLaw" (58 : Nat) ({ cls := "MoodFare", name := "street", desc := "(II)I" } : Jvm.MethodName)) ∈ lw_all := lw_g (lw_at lw_m4 185 rfl) rfl
theorem q978 : (Jvm.Cond.methodLink "MoodFareLaw" (62 : Nat) ({ cls := "MoodFare", name := "undo", desc := "()I" } : Jvm.MethodName)) ∈ lw_all := lw_g (lw_at lw_m4 193 rfl) rfl
theorem q982 : (Jvm.Cond.methodLink "MoodFareLaw" (66 : Nat) ({ cls := "MoodFare", name := "corner", desc := "(II)I" } : Jvm.MethodName)) ∈ lw_all := lw_g (lw_at lw_m4 197 rfl) rfl
theorem q995 : (Jvm.Cond.methodLink "MoodFareLaw" (70 : Nat) ({ cls := "MoodFare", name := "way", desc := "(II)I" } : Jvm.MethodName)) ∈ lw_all := lw_g (lw_at lw_m4 210 rfl) rfl
theorem q999 : (Jvm.Cond.methodLink "MoodFareLaw" (74 : Nat) ({ cls := "MoodFare", name := "would", desc := "(II)I" } : Jvm.MethodName)) ∈ lw_all := lw_g (lw_at lw_m4 214 rfl) rfl
theorem q1005 : (Jvm.Cond.methodLink "MoodFareLaw" (78 : Nat) ({ cls := "MoodFare", name := "reach", desc := "()I" } : Jvm.MethodName)) ∈ lw_all := lw_g (lw_at lw_m4 220 rfl) rfl
theorem q1009 : (Jvm.Cond.methodLink "MoodFareLaw" (82 : Nat) ({ cls := "MoodFare", name := "cheapest", desc := "(II)I" } : Jvm.MethodName)) ∈ lw_all := lw_g (lw_at lw_m4 224 rfl) rfl
theorem q1079 : (Jvm.Cond.methodLink "MoodFareLaw" (86 : Nat) ({ cls := "MoodFare", name := "dearest", desc := "(II)I" } : Jvm.MethodName)) ∈ lw_all := lw_g (lw_at lw_m5 54 rfl) rfl
theorem q1103 : (Jvm.Cond.methodLink "MoodFareLaw" (90 : Nat) ({ cls := "MoodFare", name := "moods", desc := "(II)I" } : Jvm.MethodName)) ∈ lw_all := lw_g (lw_at lw_m5 78 rfl) rfl
theorem q1124 : (Jvm.Cond.methodLink "MoodFareLaw" (94 : Nat) ({ cls := "MoodFare", name := "gets", desc := "(II)I" } : Jvm.MethodName)) ∈ lw_all := lw_g (lw_at lw_m5 99 rfl) rfl
theorem q1143 : (Jvm.Cond.methodLink "MoodFareLaw" (98 : Nat) ({ cls := "MoodFare", name := "fits", desc := "(IIIIII)I" } : Jvm.MethodName)) ∈ lw_all := lw_g (lw_at lw_m5 118 rfl) rfl
theorem q1226 : (Jvm.Cond.methodLink "MoodFareLaw" (103 : Nat) ({ cls := "MoodFare", name := "fitsOf", desc := "(IIIIIII)I" } : Jvm.MethodName)) ∈ lw_all := lw_g (lw_at lw_m5 201 rfl) rfl
theorem q1246 : (Jvm.Cond.methodLink "MoodFareLaw" (108 : Nat) ({ cls := "MoodFare", name := "share", desc := "(IIII)I" } : Jvm.MethodName)) ∈ lw_all := lw_g (lw_at lw_m5 221 rfl) rfl
theorem q1263 : (Jvm.Cond.methodLink "MoodFareLaw" (113 : Nat) ({ cls := "MoodFare", name := "shut", desc := "(IIII)I" } : Jvm.MethodName)) ∈ lw_all := lw_g (lw_at lw_m5 238 rfl) rfl
theorem q1272 : (Jvm.Cond.methodLink "MoodFareLaw" (117 : Nat) ({ cls := "MoodFare", name := "drawn", desc := "(III)I" } : Jvm.MethodName)) ∈ lw_all := lw_g (lw_at lw_m6 7 rfl) rfl
theorem q1280 : (Jvm.Cond.methodLink "MoodFareLaw" (121 : Nat) ({ cls := "MoodFare", name := "image", desc := "(I)I" } : Jvm.MethodName)) ∈ lw_all := lw_g (lw_at lw_m6 15 rfl) rfl
theorem q1284 : (Jvm.Cond.methodLink "MoodFareLaw" (125 : Nat) ({ cls := "MoodFare", name := "restore", desc := "(I)I" } : Jvm.MethodName)) ∈ lw_all := lw_g (lw_at lw_m6 19 rfl) rfl
theorem q1288 : (Jvm.Cond.methodLink "MoodFareLaw" (129 : Nat) ({ cls := "MoodFare", name := "kind", desc := "(I)I" } : Jvm.MethodName)) ∈ lw_all := lw_g (lw_at lw_m6 23 rfl) rfl
theorem q1310 : (Jvm.Cond.methodLink "MoodFareLaw" (133 : Nat) ({ cls := "MoodFare", name := "as", desc := "(II)I" } : Jvm.MethodName)) ∈ lw_all := lw_g (lw_at lw_m6 45 rfl) rfl
theorem q1341 : (Jvm.Cond.methodLink "MoodFareLaw" (137 : Nat) ({ cls := "MoodFare", name := "ask", desc := "(II)I" } : Jvm.MethodName)) ∈ lw_all := lw_g (lw_at lw_m6 76 rfl) rfl
theorem q1455 : (Jvm.Cond.methodLink "MoodFareLaw" (141 : Nat) ({ cls := "MoodFare", name := "trace", desc := "(I)I" } : Jvm.MethodName)) ∈ lw_all := lw_g (lw_at lw_m6 190 rfl) rfl
theorem q1459 : (Jvm.Cond.methodLink "MoodFareLaw" (145 : Nat) ({ cls := "MoodFare", name := "count", desc := "(I)I" } : Jvm.MethodName)) ∈ lw_all := lw_g (lw_at lw_m6 194 rfl) rfl
theorem q1463 : (Jvm.Cond.methodLink "MoodFareLaw" (149 : Nat) ({ cls := "MoodFare", name := "status", desc := "()I" } : Jvm.MethodName)) ∈ lw_all := lw_g (lw_at lw_m6 198 rfl) rfl
theorem q1467 : (Jvm.Cond.classLink "MoodFareLaw" (10 : Nat) "MoodFareModel") ∈ lw_all := lw_g (lw_at lw_m6 202 rfl) rfl
theorem q1469 : (Jvm.Cond.methodLink "MoodFareLaw" (12 : Nat) ({ cls := "MoodFareModel", name := "<init>", desc := "()V" } : Jvm.MethodName)) ∈ lw_all := lw_g (lw_at lw_m6 204 rfl) rfl
theorem q1572 : (Jvm.Cond.methodLink "MoodFareLaw" (17 : Nat) ({ cls := "MoodFareModel", name := "row", desc := "(III)I" } : Jvm.MethodName)) ∈ lw_all := lw_g (lw_at lw_m7 67 rfl) rfl
theorem q1592 : (Jvm.Cond.methodLink "MoodFareLaw" (21 : Nat) ({ cls := "MoodFareModel", name := "set", desc := "(III)I" } : Jvm.MethodName)) ∈ lw_all := lw_g (lw_at lw_m7 87 rfl) rfl
theorem q1603 : (Jvm.Cond.methodLink "MoodFareLaw" (26 : Nat) ({ cls := "MoodFareModel", name := "copy", desc := "(IIIII)I" } : Jvm.MethodName)) ∈ lw_all := lw_g (lw_at lw_m7 98 rfl) rfl
theorem q1611 : (Jvm.Cond.methodLink "MoodFareLaw" (31 : Nat) ({ cls := "MoodFareModel", name := "drop", desc := "(I)I" } : Jvm.MethodName)) ∈ lw_all := lw_g (lw_at lw_m7 106 rfl) rfl
theorem q1615 : (Jvm.Cond.methodLink "MoodFareLaw" (35 : Nat) ({ cls := "MoodFareModel", name := "feed", desc := "(I)I" } : Jvm.MethodName)) ∈ lw_all := lw_g (lw_at lw_m7 110 rfl) rfl
theorem q1620 : (Jvm.Cond.methodLink "MoodFareLaw" (40 : Nat) ({ cls := "MoodFareModel", name := "town", desc := "()I" } : Jvm.MethodName)) ∈ lw_all := lw_g (lw_at lw_m7 115 rfl) rfl
theorem q1671 : (Jvm.Cond.methodLink "MoodFareLaw" (44 : Nat) ({ cls := "MoodFareModel", name := "fault", desc := "()I" } : Jvm.MethodName)) ∈ lw_all := lw_g (lw_at lw_m7 166 rfl) rfl
theorem q1675 : (Jvm.Cond.methodLink "MoodFareLaw" (48 : Nat) ({ cls := "MoodFareModel", name := "ride", desc := "(I)I" } : Jvm.MethodName)) ∈ lw_all := lw_g (lw_at lw_m7 170 rfl) rfl
theorem q1703 : (Jvm.Cond.methodLink "MoodFareLaw" (53 : Nat) ({ cls := "MoodFareModel", name := "lesson", desc := "(II)I" } : Jvm.MethodName)) ∈ lw_all := lw_g (lw_at lw_m7 198 rfl) rfl
theorem q1711 : (Jvm.Cond.methodLink "MoodFareLaw" (57 : Nat) ({ cls := "MoodFareModel", name := "reset", desc := "()I" } : Jvm.MethodName)) ∈ lw_all := lw_g (lw_at lw_m7 206 rfl) rfl
theorem q1719 : (Jvm.Cond.methodLink "MoodFareLaw" (61 : Nat) ({ cls := "MoodFareModel", name := "street", desc := "(II)I" } : Jvm.MethodName)) ∈ lw_all := lw_g (lw_at lw_m7 214 rfl) rfl
theorem q1723 : (Jvm.Cond.methodLink "MoodFareLaw" (65 : Nat) ({ cls := "MoodFareModel", name := "undo", desc := "()I" } : Jvm.MethodName)) ∈ lw_all := lw_g (lw_at lw_m7 218 rfl) rfl
theorem q1727 : (Jvm.Cond.methodLink "MoodFareLaw" (69 : Nat) ({ cls := "MoodFareModel", name := "corner", desc := "(II)I" } : Jvm.MethodName)) ∈ lw_all := lw_g (lw_at lw_m7 222 rfl) rfl
theorem q1735 : (Jvm.Cond.methodLink "MoodFareLaw" (73 : Nat) ({ cls := "MoodFareModel", name := "way", desc := "(II)I" } : Jvm.MethodName)) ∈ lw_all := lw_g (lw_at lw_m7 230 rfl) rfl
theorem q1739 : (Jvm.Cond.methodLink "MoodFareLaw" (77 : Nat) ({ cls := "MoodFareModel", name := "would", desc := "(II)I" } : Jvm.MethodName)) ∈ lw_all := lw_g (lw_at lw_m7 234 rfl) rfl
theorem q1743 : (Jvm.Cond.methodLink "MoodFareLaw" (81 : Nat) ({ cls := "MoodFareModel", name := "reach", desc := "()I" } : Jvm.MethodName)) ∈ lw_all := lw_g (lw_at lw_m7 238 rfl) rfl
theorem q1747 : (Jvm.Cond.methodLink "MoodFareLaw" (85 : Nat) ({ cls := "MoodFareModel", name := "cheapest", desc := "(II)I" } : Jvm.MethodName)) ∈ lw_all := lw_g (lw_at lw_m8 2 rfl) rfl
theorem q1775 : (Jvm.Cond.methodLink "MoodFareLaw" (89 : Nat) ({ cls := "MoodFareModel", name := "dearest", desc := "(II)I" } : Jvm.MethodName)) ∈ lw_all := lw_g (lw_at lw_m8 30 rfl) rfl
theorem q1779 : (Jvm.Cond.methodLink "MoodFareLaw" (93 : Nat) ({ cls := "MoodFareModel", name := "moods", desc := "(II)I" } : Jvm.MethodName)) ∈ lw_all := lw_g (lw_at lw_m8 34 rfl) rfl
theorem q1783 : (Jvm.Cond.methodLink "MoodFareLaw" (97 : Nat) ({ cls := "MoodFareModel", name := "gets", desc := "(II)I" } : Jvm.MethodName)) ∈ lw_all := lw_g (lw_at lw_m8 38 rfl) rfl
theorem q1787 : (Jvm.Cond.methodLink "MoodFareLaw" (102 : Nat) ({ cls := "MoodFareModel", name := "fits", desc := "(IIIIII)I" } : Jvm.MethodName)) ∈ lw_all := lw_g (lw_at lw_m8 42 rfl) rfl
theorem q1803 : (Jvm.Cond.methodLink "MoodFareLaw" (107 : Nat) ({ cls := "MoodFareModel", name := "fitsOf", desc := "(IIIIIII)I" } : Jvm.MethodName)) ∈ lw_all := lw_g (lw_at lw_m8 58 rfl) rfl
theorem q1807 : (Jvm.Cond.methodLink "MoodFareLaw" (112 : Nat) ({ cls := "MoodFareModel", name := "share", desc := "(IIII)I" } : Jvm.MethodName)) ∈ lw_all := lw_g (lw_at lw_m8 62 rfl) rfl
theorem q1811 : (Jvm.Cond.methodLink "MoodFareLaw" (116 : Nat) ({ cls := "MoodFareModel", name := "shut", desc := "(IIII)I" } : Jvm.MethodName)) ∈ lw_all := lw_g (lw_at lw_m8 66 rfl) rfl
theorem q1815 : (Jvm.Cond.methodLink "MoodFareLaw" (120 : Nat) ({ cls := "MoodFareModel", name := "drawn", desc := "(III)I" } : Jvm.MethodName)) ∈ lw_all := lw_g (lw_at lw_m8 70 rfl) rfl
theorem q1826 : (Jvm.Cond.methodLink "MoodFareLaw" (124 : Nat) ({ cls := "MoodFareModel", name := "image", desc := "(I)I" } : Jvm.MethodName)) ∈ lw_all := lw_g (lw_at lw_m8 81 rfl) rfl
theorem q1830 : (Jvm.Cond.methodLink "MoodFareLaw" (128 : Nat) ({ cls := "MoodFareModel", name := "restore", desc := "(I)I" } : Jvm.MethodName)) ∈ lw_all := lw_g (lw_at lw_m8 85 rfl) rfl
theorem q1834 : (Jvm.Cond.methodLink "MoodFareLaw" (132 : Nat) ({ cls := "MoodFareModel", name := "kind", desc := "(I)I" } : Jvm.MethodName)) ∈ lw_all := lw_g (lw_at lw_m8 89 rfl) rfl
theorem q1842 : (Jvm.Cond.methodLink "MoodFareLaw" (136 : Nat) ({ cls := "MoodFareModel", name := "as", desc := "(II)I" } : Jvm.MethodName)) ∈ lw_all := lw_g (lw_at lw_m8 97 rfl) rfl
theorem q1846 : (Jvm.Cond.methodLink "MoodFareLaw" (140 : Nat) ({ cls := "MoodFareModel", name := "ask", desc := "(II)I" } : Jvm.MethodName)) ∈ lw_all := lw_g (lw_at lw_m8 101 rfl) rfl
theorem q1870 : (Jvm.Cond.methodLink "MoodFareLaw" (144 : Nat) ({ cls := "MoodFareModel", name := "trace", desc := "(I)I" } : Jvm.MethodName)) ∈ lw_all := lw_g (lw_at lw_m8 125 rfl) rfl
theorem q1874 : (Jvm.Cond.methodLink "MoodFareLaw" (148 : Nat) ({ cls := "MoodFareModel", name := "count", desc := "(I)I" } : Jvm.MethodName)) ∈ lw_all := lw_g (lw_at lw_m8 129 rfl) rfl
theorem q1878 : (Jvm.Cond.methodLink "MoodFareLaw" (152 : Nat) ({ cls := "MoodFareModel", name := "status", desc := "()I" } : Jvm.MethodName)) ∈ lw_all := lw_g (lw_at lw_m8 133 rfl) rfl

theorem q1429 : (Jvm.Cond.interfaceMethod "MoodFare$Held" "MoodFare$Held" "much" "()I") ∈ lw_tbl := lw_at lw_m6 164 rfl
set_option maxRecDepth 100000
theorem q1430 : (Jvm.Cond.declares ({ cls := "MoodFare$Held", name := "much", desc := "()I" } : Jvm.MethodName)) ∈ lw_tbl := lw_at lw_m6 165 rfl

theorem q1181 : (Jvm.Cond.interfaceMethod "MoodFare$Told" "MoodFare$Told" "by" "([I[I)I") ∈ lw_tbl := lw_at lw_m5 156 rfl
set_option maxRecDepth 100000
theorem q1182 : (Jvm.Cond.declares ({ cls := "MoodFare$Told", name := "by", desc := "([I[I)I" } : Jvm.MethodName)) ∈ lw_tbl := lw_at lw_m5 157 rfl

theorem q1047 : (Jvm.Cond.interfaceMethod "MoodFare$Worth" "MoodFare$Worth" "isBetter" "(LMoodFare$Town;II)Z") ∈ lw_tbl := lw_at lw_m5 22 rfl
set_option maxRecDepth 100000
theorem q1048 : (Jvm.Cond.declares ({ cls := "MoodFare$Worth", name := "isBetter", desc := "(LMoodFare$Town;II)Z" } : Jvm.MethodName)) ∈ lw_tbl := lw_at lw_m5 23 rfl

theorem q1930 : (Jvm.Cond.castable "[B" "java/lang/Object") ∈ lw_tbl := lw_at lw_m8 185 rfl
set_option maxRecDepth 100000

theorem q1931 : (Jvm.Cond.castable "[I" "java/lang/Object") ∈ lw_tbl := lw_at lw_m8 186 rfl
set_option maxRecDepth 100000

theorem q1929 : (Jvm.Cond.castable "[LMoodFare$Shelf;" "java/lang/Object") ∈ lw_tbl := lw_at lw_m8 184 rfl
set_option maxRecDepth 100000

theorem q1932 : (Jvm.Cond.castable "[LMoodFare$Town;" "java/lang/Object") ∈ lw_tbl := lw_at lw_m8 187 rfl
set_option maxRecDepth 100000

theorem q1926 : (Jvm.Cond.sameMethod "[Ljava/lang/Object;" "java/lang/Object" "getClass" "()Ljava/lang/Class;") ∈ lw_all := lw_g (lw_at lw_m8 181 rfl) rfl
set_option maxRecDepth 100000
theorem q1927 : (Jvm.Cond.selects "[Ljava/lang/Object;" ({ cls := "java/lang/Object", name := "getClass", desc := "()Ljava/lang/Class;" } : Jvm.MethodName) ({ cls := "java/lang/Object", name := "getClass", desc := "()Ljava/lang/Class;" } : Jvm.MethodName)) ∈ lw_all := lw_g (lw_at lw_m8 182 rfl) rfl
theorem q1934 : (Jvm.Cond.castable "[Ljava/lang/Object;" "java/lang/Object") ∈ lw_tbl := lw_at lw_m8 189 rfl

theorem q1933 : (Jvm.Cond.castable "[S" "java/lang/Object") ∈ lw_tbl := lw_at lw_m8 188 rfl
set_option maxRecDepth 100000

theorem q1935 : (Jvm.Cond.castable "[Z" "java/lang/Object") ∈ lw_tbl := lw_at lw_m8 190 rfl
set_option maxRecDepth 100000

theorem q83 : (Jvm.Cond.initialized "java/lang/System") ∈ lw_all := lw_g (lw_at lw_m1 18 rfl) rfl
set_option maxRecDepth 100000
theorem q484 : (Jvm.Cond.static ({ cls := "java/lang/System", name := "arraycopy", desc := "(Ljava/lang/Object;ILjava/lang/Object;II)V" } : Jvm.MethodName)) ∈ lw_all := lw_g (lw_at lw_m2 179 rfl) rfl
theorem q485 : (Jvm.Cond.native ({ cls := "java/lang/System", name := "arraycopy", desc := "(Ljava/lang/Object;ILjava/lang/Object;II)V" } : Jvm.MethodName)) ∈ lw_all := lw_g (lw_at lw_m2 180 rfl) rfl

theorem q695 : (Jvm.Cond.interfaceMethod "java/util/List" "java/util/List" "size" "()I") ∈ lw_tbl := lw_at lw_m3 150 rfl
set_option maxRecDepth 100000
theorem q696 : (Jvm.Cond.declares ({ cls := "java/util/List", name := "size", desc := "()I" } : Jvm.MethodName)) ∈ lw_tbl := lw_at lw_m3 151 rfl
theorem q760 : (Jvm.Cond.interfaceMethod "java/util/List" "java/util/List" "add" "(Ljava/lang/Object;)Z") ∈ lw_tbl := lw_at lw_m3 215 rfl
theorem q761 : (Jvm.Cond.declares ({ cls := "java/util/List", name := "add", desc := "(Ljava/lang/Object;)Z" } : Jvm.MethodName)) ∈ lw_tbl := lw_at lw_m3 216 rfl
theorem q846 : (Jvm.Cond.interfaceMethod "java/util/List" "java/util/List" "clear" "()V") ∈ lw_tbl := lw_at lw_m4 61 rfl
theorem q847 : (Jvm.Cond.declares ({ cls := "java/util/List", name := "clear", desc := "()V" } : Jvm.MethodName)) ∈ lw_tbl := lw_at lw_m4 62 rfl
theorem q855 : (Jvm.Cond.interfaceMethod "java/util/List" "java/util/List" "get" "(I)Ljava/lang/Object;") ∈ lw_tbl := lw_at lw_m4 70 rfl
theorem q856 : (Jvm.Cond.declares ({ cls := "java/util/List", name := "get", desc := "(I)Ljava/lang/Object;" } : Jvm.MethodName)) ∈ lw_tbl := lw_at lw_m4 71 rfl
theorem q1208 : (Jvm.Cond.interfaceMethod "java/util/List" "java/util/List" "set" "(ILjava/lang/Object;)Ljava/lang/Object;") ∈ lw_tbl := lw_at lw_m5 183 rfl
theorem q1209 : (Jvm.Cond.declares ({ cls := "java/util/List", name := "set", desc := "(ILjava/lang/Object;)Ljava/lang/Object;" } : Jvm.MethodName)) ∈ lw_tbl := lw_at lw_m5 184 rfl

theorem q121 : (Jvm.Cond.arrayOver (Jvm.ClassFile.FieldType.object "MoodFare$Shelf")) ∈ lw_tbl := lw_at lw_m1 56 rfl
set_option maxRecDepth 100000
theorem q164 : (Jvm.Cond.arrayClass Jvm.ClassFile.FieldType.byte) ∈ lw_all := lw_g (lw_at lw_m1 99 rfl) rfl
theorem q228 : (Jvm.Cond.arrayClass Jvm.ClassFile.FieldType.int) ∈ lw_all := lw_g (lw_at lw_m1 163 rfl) rfl
theorem q229 : (Jvm.Cond.arrayOver (Jvm.ClassFile.FieldType.object "MoodFare$Town")) ∈ lw_tbl := lw_at lw_m1 164 rfl
theorem q404 : (Jvm.Cond.arrayClass Jvm.ClassFile.FieldType.short) ∈ lw_all := lw_g (lw_at lw_m2 99 rfl) rfl
theorem q824 : (Jvm.Cond.arrayOver (Jvm.ClassFile.FieldType.object "java/lang/Object")) ∈ lw_tbl := lw_at lw_m4 39 rfl
theorem q1571 : (Jvm.Cond.arrayClass Jvm.ClassFile.FieldType.boolean) ∈ lw_all := lw_g (lw_at lw_m7 66 rfl) rfl
