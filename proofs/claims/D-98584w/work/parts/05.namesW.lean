theorem q118 : (Jvm.Cond.initialized "RainLoomLaw") ∈ lw_all := lw_g (lw_at lw_m1 0 rfl) rfl
set_option maxRecDepth 100000
theorem q157 : (Jvm.Cond.classLink "RainLoomLaw" (7 : Nat) "RainLoom") ∈ lw_all := lw_g (lw_at lw_m1 39 rfl) rfl
theorem q159 : (Jvm.Cond.methodLink "RainLoomLaw" (9 : Nat) ({ cls := "RainLoom", name := "<init>", desc := "()V" } : Jvm.MethodName)) ∈ lw_all := lw_g (lw_at lw_m1 41 rfl) rfl
theorem q640 : (Jvm.Cond.methodLink "RainLoomLaw" (13 : Nat) ({ cls := "RainLoom", name := "feed", desc := "(IIIII)I" } : Jvm.MethodName)) ∈ lw_all := lw_g (lw_at lw_m3 42 rfl) rfl
theorem q648 : (Jvm.Cond.methodLink "RainLoomLaw" (18 : Nat) ({ cls := "RainLoom", name := "back", desc := "(I)I" } : Jvm.MethodName)) ∈ lw_all := lw_g (lw_at lw_m3 50 rfl) rfl
theorem q652 : (Jvm.Cond.methodLink "RainLoomLaw" (23 : Nat) ({ cls := "RainLoom", name := "read", desc := "()I" } : Jvm.MethodName)) ∈ lw_all := lw_g (lw_at lw_m3 54 rfl) rfl
theorem q1175 : (Jvm.Cond.methodLink "RainLoomLaw" (28 : Nat) ({ cls := "RainLoom", name := "place", desc := "()I" } : Jvm.MethodName)) ∈ lw_all := lw_g (lw_at lw_m5 97 rfl) rfl
theorem q1179 : (Jvm.Cond.methodLink "RainLoomLaw" (32 : Nat) ({ cls := "RainLoom", name := "cell", desc := "(III)I" } : Jvm.MethodName)) ∈ lw_all := lw_g (lw_at lw_m5 101 rfl) rfl
theorem q1201 : (Jvm.Cond.methodLink "RainLoomLaw" (37 : Nat) ({ cls := "RainLoom", name := "field", desc := "(II)I" } : Jvm.MethodName)) ∈ lw_all := lw_g (lw_at lw_m5 123 rfl) rfl
theorem q1219 : (Jvm.Cond.methodLink "RainLoomLaw" (42 : Nat) ({ cls := "RainLoom", name := "loom", desc := "(II)I" } : Jvm.MethodName)) ∈ lw_all := lw_g (lw_at lw_m5 141 rfl) rfl
theorem q1237 : (Jvm.Cond.methodLink "RainLoomLaw" (46 : Nat) ({ cls := "RainLoom", name := "thread", desc := "(III)I" } : Jvm.MethodName)) ∈ lw_all := lw_g (lw_at lw_m5 159 rfl) rfl
theorem q1268 : (Jvm.Cond.methodLink "RainLoomLaw" (50 : Nat) ({ cls := "RainLoom", name := "order", desc := "(IIIII)Z" } : Jvm.MethodName)) ∈ lw_all := lw_g (lw_at lw_m5 190 rfl) rfl
theorem q1289 : (Jvm.Cond.methodLink "RainLoomLaw" (55 : Nat) ({ cls := "RainLoom", name := "stop", desc := "(I)Z" } : Jvm.MethodName)) ∈ lw_all := lw_g (lw_at lw_m5 211 rfl) rfl
theorem q1294 : (Jvm.Cond.methodLink "RainLoomLaw" (60 : Nat) ({ cls := "RainLoom", name := "fall", desc := "(IIIII)I" } : Jvm.MethodName)) ∈ lw_all := lw_g (lw_at lw_m5 216 rfl) rfl
theorem q1304 : (Jvm.Cond.methodLink "RainLoomLaw" (64 : Nat) ({ cls := "RainLoom", name := "turn", desc := "(II)I" } : Jvm.MethodName)) ∈ lw_all := lw_g (lw_at lw_m5 226 rfl) rfl
theorem q1308 : (Jvm.Cond.methodLink "RainLoomLaw" (68 : Nat) ({ cls := "RainLoom", name := "days", desc := "(I)I" } : Jvm.MethodName)) ∈ lw_all := lw_g (lw_at lw_m5 230 rfl) rfl
theorem q1358 : (Jvm.Cond.methodLink "RainLoomLaw" (72 : Nat) ({ cls := "RainLoom", name := "undo", desc := "()Z" } : Jvm.MethodName)) ∈ lw_all := lw_g (lw_at lw_m6 40 rfl) rfl
theorem q1362 : (Jvm.Cond.methodLink "RainLoomLaw" (77 : Nat) ({ cls := "RainLoom", name := "holds", desc := "(IIIZ)I" } : Jvm.MethodName)) ∈ lw_all := lw_g (lw_at lw_m6 44 rfl) rfl
theorem q1370 : (Jvm.Cond.methodLink "RainLoomLaw" (82 : Nat) ({ cls := "RainLoom", name := "comes", desc := "(III)I" } : Jvm.MethodName)) ∈ lw_all := lw_g (lw_at lw_m6 52 rfl) rfl
theorem q1374 : (Jvm.Cond.methodLink "RainLoomLaw" (90 : Nat) ({ cls := "RainLoom", name := "agree", desc := "(II)I" } : Jvm.MethodName)) ∈ lw_all := lw_g (lw_at lw_m6 56 rfl) rfl
theorem q1382 : (Jvm.Cond.methodLink "RainLoomLaw" (86 : Nat) ({ cls := "RainLoom", name := "round", desc := "(I)I" } : Jvm.MethodName)) ∈ lw_all := lw_g (lw_at lw_m6 64 rfl) rfl
theorem q1390 : (Jvm.Cond.methodLink "RainLoomLaw" (94 : Nat) ({ cls := "RainLoom", name := "where", desc := "(IIII)I" } : Jvm.MethodName)) ∈ lw_all := lw_g (lw_at lw_m6 72 rfl) rfl
theorem q1398 : (Jvm.Cond.methodLink "RainLoomLaw" (99 : Nat) ({ cls := "RainLoom", name := "cut", desc := "(IIII)I" } : Jvm.MethodName)) ∈ lw_all := lw_g (lw_at lw_m6 80 rfl) rfl
theorem q1416 : (Jvm.Cond.methodLink "RainLoomLaw" (103 : Nat) ({ cls := "RainLoom", name := "then", desc := "(III)I" } : Jvm.MethodName)) ∈ lw_all := lw_g (lw_at lw_m6 98 rfl) rfl
theorem q1420 : (Jvm.Cond.methodLink "RainLoomLaw" (107 : Nat) ({ cls := "RainLoom", name := "all", desc := "(II)I" } : Jvm.MethodName)) ∈ lw_all := lw_g (lw_at lw_m6 102 rfl) rfl
theorem q1427 : (Jvm.Cond.methodLink "RainLoomLaw" (111 : Nat) ({ cls := "RainLoom", name := "wettest", desc := "(II)I" } : Jvm.MethodName)) ∈ lw_all := lw_g (lw_at lw_m6 109 rfl) rfl
theorem q1431 : (Jvm.Cond.methodLink "RainLoomLaw" (115 : Nat) ({ cls := "RainLoom", name := "dry", desc := "(I)I" } : Jvm.MethodName)) ∈ lw_all := lw_g (lw_at lw_m6 113 rfl) rfl
theorem q1435 : (Jvm.Cond.methodLink "RainLoomLaw" (119 : Nat) ({ cls := "RainLoom", name := "emptyBy", desc := "()I" } : Jvm.MethodName)) ∈ lw_all := lw_g (lw_at lw_m6 117 rfl) rfl
theorem q1439 : (Jvm.Cond.methodLink "RainLoomLaw" (136 : Nat) ({ cls := "RainLoom", name := "year", desc := "(II)I" } : Jvm.MethodName)) ∈ lw_all := lw_g (lw_at lw_m6 121 rfl) rfl
theorem q1443 : (Jvm.Cond.methodLink "RainLoomLaw" (123 : Nat) ({ cls := "RainLoom", name := "serve", desc := "(III)I" } : Jvm.MethodName)) ∈ lw_all := lw_g (lw_at lw_m6 125 rfl) rfl
theorem q1455 : (Jvm.Cond.methodLink "RainLoomLaw" (127 : Nat) ({ cls := "RainLoom", name := "suits", desc := "(III)I" } : Jvm.MethodName)) ∈ lw_all := lw_g (lw_at lw_m6 137 rfl) rfl
theorem q1459 : (Jvm.Cond.methodLink "RainLoomLaw" (131 : Nat) ({ cls := "RainLoom", name := "now", desc := "(IZ)I" } : Jvm.MethodName)) ∈ lw_all := lw_g (lw_at lw_m6 141 rfl) rfl
theorem q1463 : (Jvm.Cond.methodLink "RainLoomLaw" (140 : Nat) ({ cls := "RainLoom", name := "tell", desc := "(III)I" } : Jvm.MethodName)) ∈ lw_all := lw_g (lw_at lw_m6 145 rfl) rfl
theorem q1467 : (Jvm.Cond.methodLink "RainLoomLaw" (144 : Nat) ({ cls := "RainLoom", name := "forget", desc := "()I" } : Jvm.MethodName)) ∈ lw_all := lw_g (lw_at lw_m6 149 rfl) rfl
theorem q1471 : (Jvm.Cond.methodLink "RainLoomLaw" (148 : Nat) ({ cls := "RainLoom", name := "fell", desc := "(IIII)I" } : Jvm.MethodName)) ∈ lw_all := lw_g (lw_at lw_m6 153 rfl) rfl
theorem q1479 : (Jvm.Cond.methodLink "RainLoomLaw" (152 : Nat) ({ cls := "RainLoom", name := "look", desc := "(III)I" } : Jvm.MethodName)) ∈ lw_all := lw_g (lw_at lw_m6 161 rfl) rfl
theorem q1488 : (Jvm.Cond.methodLink "RainLoomLaw" (156 : Nat) ({ cls := "RainLoom", name := "hold", desc := "(I)Z" } : Jvm.MethodName)) ∈ lw_all := lw_g (lw_at lw_m6 170 rfl) rfl
theorem q1492 : (Jvm.Cond.methodLink "RainLoomLaw" (160 : Nat) ({ cls := "RainLoom", name := "restore", desc := "(I)Z" } : Jvm.MethodName)) ∈ lw_all := lw_g (lw_at lw_m6 174 rfl) rfl
theorem q1496 : (Jvm.Cond.methodLink "RainLoomLaw" (164 : Nat) ({ cls := "RainLoom", name := "count", desc := "(I)I" } : Jvm.MethodName)) ∈ lw_all := lw_g (lw_at lw_m6 178 rfl) rfl
theorem q1500 : (Jvm.Cond.classLink "RainLoomLaw" (10 : Nat) "RainLoomModel") ∈ lw_all := lw_g (lw_at lw_m6 182 rfl) rfl
theorem q1502 : (Jvm.Cond.methodLink "RainLoomLaw" (12 : Nat) ({ cls := "RainLoomModel", name := "<init>", desc := "()V" } : Jvm.MethodName)) ∈ lw_all := lw_g (lw_at lw_m6 184 rfl) rfl
theorem q1742 : (Jvm.Cond.methodLink "RainLoomLaw" (17 : Nat) ({ cls := "RainLoomModel", name := "feed", desc := "(IIIII)I" } : Jvm.MethodName)) ∈ lw_all := lw_g (lw_at lw_m7 184 rfl) rfl
theorem q1750 : (Jvm.Cond.methodLink "RainLoomLaw" (22 : Nat) ({ cls := "RainLoomModel", name := "back", desc := "(I)I" } : Jvm.MethodName)) ∈ lw_all := lw_g (lw_at lw_m7 192 rfl) rfl
theorem q1754 : (Jvm.Cond.methodLink "RainLoomLaw" (27 : Nat) ({ cls := "RainLoomModel", name := "read", desc := "()I" } : Jvm.MethodName)) ∈ lw_all := lw_g (lw_at lw_m7 196 rfl) rfl
theorem q1860 : (Jvm.Cond.methodLink "RainLoomLaw" (31 : Nat) ({ cls := "RainLoomModel", name := "place", desc := "()I" } : Jvm.MethodName)) ∈ lw_all := lw_g (lw_at lw_m8 62 rfl) rfl
theorem q1864 : (Jvm.Cond.methodLink "RainLoomLaw" (36 : Nat) ({ cls := "RainLoomModel", name := "cell", desc := "(III)I" } : Jvm.MethodName)) ∈ lw_all := lw_g (lw_at lw_m8 66 rfl) rfl
theorem q1899 : (Jvm.Cond.methodLink "RainLoomLaw" (41 : Nat) ({ cls := "RainLoomModel", name := "field", desc := "(II)I" } : Jvm.MethodName)) ∈ lw_all := lw_g (lw_at lw_m8 101 rfl) rfl
theorem q1919 : (Jvm.Cond.methodLink "RainLoomLaw" (45 : Nat) ({ cls := "RainLoomModel", name := "loom", desc := "(II)I" } : Jvm.MethodName)) ∈ lw_all := lw_g (lw_at lw_m8 121 rfl) rfl
theorem q1927 : (Jvm.Cond.methodLink "RainLoomLaw" (49 : Nat) ({ cls := "RainLoomModel", name := "thread", desc := "(III)I" } : Jvm.MethodName)) ∈ lw_all := lw_g (lw_at lw_m8 129 rfl) rfl
theorem q1947 : (Jvm.Cond.methodLink "RainLoomLaw" (54 : Nat) ({ cls := "RainLoomModel", name := "order", desc := "(IIIII)Z" } : Jvm.MethodName)) ∈ lw_all := lw_g (lw_at lw_m8 149 rfl) rfl
theorem q1959 : (Jvm.Cond.methodLink "RainLoomLaw" (59 : Nat) ({ cls := "RainLoomModel", name := "stop", desc := "(I)Z" } : Jvm.MethodName)) ∈ lw_all := lw_g (lw_at lw_m8 161 rfl) rfl
theorem q1963 : (Jvm.Cond.methodLink "RainLoomLaw" (63 : Nat) ({ cls := "RainLoomModel", name := "fall", desc := "(IIIII)I" } : Jvm.MethodName)) ∈ lw_all := lw_g (lw_at lw_m8 165 rfl) rfl
theorem q1971 : (Jvm.Cond.methodLink "RainLoomLaw" (67 : Nat) ({ cls := "RainLoomModel", name := "turn", desc := "(II)I" } : Jvm.MethodName)) ∈ lw_all := lw_g (lw_at lw_m8 173 rfl) rfl
theorem q1975 : (Jvm.Cond.methodLink "RainLoomLaw" (71 : Nat) ({ cls := "RainLoomModel", name := "days", desc := "(I)I" } : Jvm.MethodName)) ∈ lw_all := lw_g (lw_at lw_m8 177 rfl) rfl
theorem q1999 : (Jvm.Cond.methodLink "RainLoomLaw" (76 : Nat) ({ cls := "RainLoomModel", name := "undo", desc := "()Z" } : Jvm.MethodName)) ∈ lw_all := lw_g (lw_at lw_m8 201 rfl) rfl
theorem q2003 : (Jvm.Cond.methodLink "RainLoomLaw" (81 : Nat) ({ cls := "RainLoomModel", name := "holds", desc := "(IIIZ)I" } : Jvm.MethodName)) ∈ lw_all := lw_g (lw_at lw_m8 205 rfl) rfl
theorem q2011 : (Jvm.Cond.methodLink "RainLoomLaw" (85 : Nat) ({ cls := "RainLoomModel", name := "comes", desc := "(III)I" } : Jvm.MethodName)) ∈ lw_all := lw_g (lw_at lw_m8 213 rfl) rfl
theorem q2015 : (Jvm.Cond.methodLink "RainLoomLaw" (89 : Nat) ({ cls := "RainLoomModel", name := "round", desc := "(I)I" } : Jvm.MethodName)) ∈ lw_all := lw_g (lw_at lw_m8 217 rfl) rfl
theorem q2023 : (Jvm.Cond.methodLink "RainLoomLaw" (93 : Nat) ({ cls := "RainLoomModel", name := "agree", desc := "(II)I" } : Jvm.MethodName)) ∈ lw_all := lw_g (lw_at lw_m8 225 rfl) rfl
theorem q2027 : (Jvm.Cond.methodLink "RainLoomLaw" (98 : Nat) ({ cls := "RainLoomModel", name := "where", desc := "(IIII)I" } : Jvm.MethodName)) ∈ lw_all := lw_g (lw_at lw_m8 229 rfl) rfl
theorem q2039 : (Jvm.Cond.methodLink "RainLoomLaw" (102 : Nat) ({ cls := "RainLoomModel", name := "cut", desc := "(IIII)I" } : Jvm.MethodName)) ∈ lw_all := lw_g (lw_at lw_m9 1 rfl) rfl
theorem q2063 : (Jvm.Cond.methodLink "RainLoomLaw" (106 : Nat) ({ cls := "RainLoomModel", name := "then", desc := "(III)I" } : Jvm.MethodName)) ∈ lw_all := lw_g (lw_at lw_m9 25 rfl) rfl
theorem q2070 : (Jvm.Cond.methodLink "RainLoomLaw" (110 : Nat) ({ cls := "RainLoomModel", name := "all", desc := "(II)I" } : Jvm.MethodName)) ∈ lw_all := lw_g (lw_at lw_m9 32 rfl) rfl
theorem q2078 : (Jvm.Cond.methodLink "RainLoomLaw" (114 : Nat) ({ cls := "RainLoomModel", name := "wettest", desc := "(II)I" } : Jvm.MethodName)) ∈ lw_all := lw_g (lw_at lw_m9 40 rfl) rfl
theorem q2082 : (Jvm.Cond.methodLink "RainLoomLaw" (118 : Nat) ({ cls := "RainLoomModel", name := "dry", desc := "(I)I" } : Jvm.MethodName)) ∈ lw_all := lw_g (lw_at lw_m9 44 rfl) rfl
theorem q2086 : (Jvm.Cond.methodLink "RainLoomLaw" (122 : Nat) ({ cls := "RainLoomModel", name := "emptyBy", desc := "()I" } : Jvm.MethodName)) ∈ lw_all := lw_g (lw_at lw_m9 48 rfl) rfl
theorem q2090 : (Jvm.Cond.methodLink "RainLoomLaw" (126 : Nat) ({ cls := "RainLoomModel", name := "serve", desc := "(III)I" } : Jvm.MethodName)) ∈ lw_all := lw_g (lw_at lw_m9 52 rfl) rfl
theorem q2109 : (Jvm.Cond.methodLink "RainLoomLaw" (130 : Nat) ({ cls := "RainLoomModel", name := "suits", desc := "(III)I" } : Jvm.MethodName)) ∈ lw_all := lw_g (lw_at lw_m9 71 rfl) rfl
theorem q2113 : (Jvm.Cond.methodLink "RainLoomLaw" (135 : Nat) ({ cls := "RainLoomModel", name := "now", desc := "(IZ)I" } : Jvm.MethodName)) ∈ lw_all := lw_g (lw_at lw_m9 75 rfl) rfl
theorem q2117 : (Jvm.Cond.methodLink "RainLoomLaw" (139 : Nat) ({ cls := "RainLoomModel", name := "year", desc := "(II)I" } : Jvm.MethodName)) ∈ lw_all := lw_g (lw_at lw_m9 79 rfl) rfl
theorem q2121 : (Jvm.Cond.methodLink "RainLoomLaw" (143 : Nat) ({ cls := "RainLoomModel", name := "tell", desc := "(III)I" } : Jvm.MethodName)) ∈ lw_all := lw_g (lw_at lw_m9 83 rfl) rfl
theorem q2125 : (Jvm.Cond.methodLink "RainLoomLaw" (147 : Nat) ({ cls := "RainLoomModel", name := "forget", desc := "()I" } : Jvm.MethodName)) ∈ lw_all := lw_g (lw_at lw_m9 87 rfl) rfl
theorem q2129 : (Jvm.Cond.methodLink "RainLoomLaw" (151 : Nat) ({ cls := "RainLoomModel", name := "fell", desc := "(IIII)I" } : Jvm.MethodName)) ∈ lw_all := lw_g (lw_at lw_m9 91 rfl) rfl
theorem q2145 : (Jvm.Cond.methodLink "RainLoomLaw" (155 : Nat) ({ cls := "RainLoomModel", name := "look", desc := "(III)I" } : Jvm.MethodName)) ∈ lw_all := lw_g (lw_at lw_m9 107 rfl) rfl
theorem q2153 : (Jvm.Cond.methodLink "RainLoomLaw" (159 : Nat) ({ cls := "RainLoomModel", name := "hold", desc := "(I)Z" } : Jvm.MethodName)) ∈ lw_all := lw_g (lw_at lw_m9 115 rfl) rfl
theorem q2157 : (Jvm.Cond.methodLink "RainLoomLaw" (163 : Nat) ({ cls := "RainLoomModel", name := "restore", desc := "(I)Z" } : Jvm.MethodName)) ∈ lw_all := lw_g (lw_at lw_m9 119 rfl) rfl
theorem q2161 : (Jvm.Cond.methodLink "RainLoomLaw" (167 : Nat) ({ cls := "RainLoomModel", name := "count", desc := "(I)I" } : Jvm.MethodName)) ∈ lw_all := lw_g (lw_at lw_m9 123 rfl) rfl

theorem q936 : (Jvm.Cond.sameMethod "[B" "java/lang/Object" "clone" "()Ljava/lang/Object;") ∈ lw_all := lw_g (lw_at lw_m4 98 rfl) rfl
set_option maxRecDepth 100000
theorem q939 : (Jvm.Cond.selects "[B" ({ cls := "[B", name := "clone", desc := "()Ljava/lang/Object;" } : Jvm.MethodName) ({ cls := "java/lang/Object", name := "clone", desc := "()Ljava/lang/Object;" } : Jvm.MethodName)) ∈ lw_all := lw_g (lw_at lw_m4 101 rfl) rfl
theorem q940 : (Jvm.Cond.castable "[B" "java/lang/Cloneable") ∈ lw_tbl := lw_at lw_m4 102 rfl
theorem q2211 : (Jvm.Cond.castable "[B" "java/lang/Object") ∈ lw_tbl := lw_at lw_m9 173 rfl

theorem q2214 : (Jvm.Cond.castable "[I" "java/lang/Object") ∈ lw_tbl := lw_at lw_m9 176 rfl
set_option maxRecDepth 100000

theorem q2222 : (Jvm.Cond.castable "[J" "java/lang/Object") ∈ lw_tbl := lw_at lw_m9 184 rfl
set_option maxRecDepth 100000

theorem q2216 : (Jvm.Cond.castable "[LRainLoom$Land;" "java/lang/Object") ∈ lw_tbl := lw_at lw_m9 178 rfl
set_option maxRecDepth 100000

theorem q2215 : (Jvm.Cond.castable "[LRainLoom$Law;" "java/lang/Object") ∈ lw_tbl := lw_at lw_m9 177 rfl
set_option maxRecDepth 100000

theorem q2217 : (Jvm.Cond.castable "[LRainLoom$Part;" "java/lang/Object") ∈ lw_tbl := lw_at lw_m9 179 rfl
set_option maxRecDepth 100000

theorem q2220 : (Jvm.Cond.castable "[LRainLoom$Sum;" "java/lang/Object") ∈ lw_tbl := lw_at lw_m9 182 rfl
set_option maxRecDepth 100000

theorem q2208 : (Jvm.Cond.sameMethod "[Ljava/lang/Object;" "java/lang/Object" "getClass" "()Ljava/lang/Class;") ∈ lw_all := lw_g (lw_at lw_m9 170 rfl) rfl
set_option maxRecDepth 100000
theorem q2209 : (Jvm.Cond.selects "[Ljava/lang/Object;" ({ cls := "java/lang/Object", name := "getClass", desc := "()Ljava/lang/Class;" } : Jvm.MethodName) ({ cls := "java/lang/Object", name := "getClass", desc := "()Ljava/lang/Class;" } : Jvm.MethodName)) ∈ lw_all := lw_g (lw_at lw_m9 171 rfl) rfl
theorem q2221 : (Jvm.Cond.castable "[Ljava/lang/Object;" "java/lang/Object") ∈ lw_tbl := lw_at lw_m9 183 rfl

theorem q2212 : (Jvm.Cond.castable "[Ljava/lang/String;" "java/lang/Object") ∈ lw_tbl := lw_at lw_m9 174 rfl
set_option maxRecDepth 100000

theorem q2213 : (Jvm.Cond.castable "[S" "java/lang/Object") ∈ lw_tbl := lw_at lw_m9 175 rfl
set_option maxRecDepth 100000

theorem q2219 : (Jvm.Cond.castable "[Z" "java/lang/Object") ∈ lw_tbl := lw_at lw_m9 181 rfl
set_option maxRecDepth 100000

theorem q2218 : (Jvm.Cond.castable "[[I" "java/lang/Object") ∈ lw_tbl := lw_at lw_m9 180 rfl
set_option maxRecDepth 100000

theorem q153 : (Jvm.Cond.initialized "java/lang/System") ∈ lw_all := lw_g (lw_at lw_m1 35 rfl) rfl
set_option maxRecDepth 100000
theorem q946 : (Jvm.Cond.static ({ cls := "java/lang/System", name := "arraycopy", desc := "(Ljava/lang/Object;ILjava/lang/Object;II)V" } : Jvm.MethodName)) ∈ lw_all := lw_g (lw_at lw_m4 108 rfl) rfl
theorem q947 : (Jvm.Cond.native ({ cls := "java/lang/System", name := "arraycopy", desc := "(Ljava/lang/Object;ILjava/lang/Object;II)V" } : Jvm.MethodName)) ∈ lw_all := lw_g (lw_at lw_m4 109 rfl) rfl

theorem q238 : (Jvm.Cond.arrayClass Jvm.ClassFile.FieldType.byte) ∈ lw_all := lw_g (lw_at lw_m1 120 rfl) rfl
set_option maxRecDepth 100000
theorem q246 : (Jvm.Cond.arrayOver (Jvm.ClassFile.FieldType.object "java/lang/String")) ∈ lw_tbl := lw_at lw_m1 128 rfl
theorem q298 : (Jvm.Cond.arrayClass Jvm.ClassFile.FieldType.short) ∈ lw_all := lw_g (lw_at lw_m1 180 rfl) rfl
theorem q359 : (Jvm.Cond.arrayClass Jvm.ClassFile.FieldType.int) ∈ lw_all := lw_g (lw_at lw_m2 1 rfl) rfl
theorem q361 : (Jvm.Cond.arrayOver (Jvm.ClassFile.FieldType.object "RainLoom$Law")) ∈ lw_tbl := lw_at lw_m2 3 rfl
theorem q500 : (Jvm.Cond.arrayOver (Jvm.ClassFile.FieldType.object "RainLoom$Land")) ∈ lw_tbl := lw_at lw_m2 142 rfl
theorem q502 : (Jvm.Cond.arrayOver (Jvm.ClassFile.FieldType.object "RainLoom$Part")) ∈ lw_tbl := lw_at lw_m2 144 rfl
theorem q535 : (Jvm.Cond.arrayOver (Jvm.ClassFile.FieldType.array Jvm.ClassFile.FieldType.int)) ∈ lw_tbl := lw_at lw_m2 177 rfl
theorem q639 : (Jvm.Cond.arrayClass Jvm.ClassFile.FieldType.boolean) ∈ lw_all := lw_g (lw_at lw_m3 41 rfl) rfl
theorem q771 : (Jvm.Cond.arrayOver (Jvm.ClassFile.FieldType.object "RainLoom$Sum")) ∈ lw_tbl := lw_at lw_m3 173 rfl
theorem q1142 : (Jvm.Cond.arrayOver (Jvm.ClassFile.FieldType.object "java/lang/Object")) ∈ lw_tbl := lw_at lw_m5 64 rfl
theorem q1741 : (Jvm.Cond.arrayClass Jvm.ClassFile.FieldType.long) ∈ lw_all := lw_g (lw_at lw_m7 183 rfl) rfl
