set_option maxRecDepth 100000
theorem q102 : (Jvm.Cond.initialized "VillageStoriesLaw") ∈ lw_all := lw_g (lw_at lw_m1 0 rfl) rfl
set_option maxRecDepth 100000
theorem q148 : (Jvm.Cond.classLink "VillageStoriesLaw" (7 : Nat) "VillageStories") ∈ lw_all := lw_g (lw_at lw_m1 46 rfl) rfl
theorem q150 : (Jvm.Cond.methodLink "VillageStoriesLaw" (9 : Nat) ({ cls := "VillageStories", name := "<init>", desc := "()V" } : Jvm.MethodName)) ∈ lw_all := lw_g (lw_at lw_m1 48 rfl) rfl
theorem q383 : (Jvm.Cond.methodLink "VillageStoriesLaw" (13 : Nat) ({ cls := "VillageStories", name := "size", desc := "(II)Z" } : Jvm.MethodName)) ∈ lw_all := lw_g (lw_at lw_m2 41 rfl) rfl
theorem q405 : (Jvm.Cond.methodLink "VillageStoriesLaw" (18 : Nat) ({ cls := "VillageStories", name := "relation", desc := "(II)I" } : Jvm.MethodName)) ∈ lw_all := lw_g (lw_at lw_m2 63 rfl) rfl
theorem q510 : (Jvm.Cond.methodLink "VillageStoriesLaw" (23 : Nat) ({ cls := "VillageStories", name := "facts", desc := "()I" } : Jvm.MethodName)) ∈ lw_all := lw_g (lw_at lw_m2 168 rfl) rfl
theorem q542 : (Jvm.Cond.methodLink "VillageStoriesLaw" (28 : Nat) ({ cls := "VillageStories", name := "tell", desc := "(IIIZ)Z" } : Jvm.MethodName)) ∈ lw_all := lw_g (lw_at lw_m2 200 rfl) rfl
theorem q564 : (Jvm.Cond.methodLink "VillageStoriesLaw" (33 : Nat) ({ cls := "VillageStories", name := "fact", desc := "(III)I" } : Jvm.MethodName)) ∈ lw_all := lw_g (lw_at lw_m2 222 rfl) rfl
theorem q568 : (Jvm.Cond.methodLink "VillageStoriesLaw" (38 : Nat) ({ cls := "VillageStories", name := "known", desc := "(IIIZ)Z" } : Jvm.MethodName)) ∈ lw_all := lw_g (lw_at lw_m2 226 rfl) rfl
theorem q602 : (Jvm.Cond.methodLink "VillageStoriesLaw" (52 : Nat) ({ cls := "VillageStories", name := "feed", desc := "(IIIII)I" } : Jvm.MethodName)) ∈ lw_all := lw_g (lw_at lw_m3 20 rfl) rfl
theorem q606 : (Jvm.Cond.methodLink "VillageStoriesLaw" (57 : Nat) ({ cls := "VillageStories", name := "end", desc := "(I)I" } : Jvm.MethodName)) ∈ lw_all := lw_g (lw_at lw_m3 24 rfl) rfl
theorem q610 : (Jvm.Cond.methodLink "VillageStoriesLaw" (61 : Nat) ({ cls := "VillageStories", name := "story", desc := "()I" } : Jvm.MethodName)) ∈ lw_all := lw_g (lw_at lw_m3 28 rfl) rfl
theorem q1224 : (Jvm.Cond.methodLink "VillageStoriesLaw" (65 : Nat) ({ cls := "VillageStories", name := "guess", desc := "()I" } : Jvm.MethodName)) ∈ lw_all := lw_g (lw_at lw_m5 162 rfl) rfl
theorem q1228 : (Jvm.Cond.methodLink "VillageStoriesLaw" (69 : Nat) ({ cls := "VillageStories", name := "fault", desc := "(I)I" } : Jvm.MethodName)) ∈ lw_all := lw_g (lw_at lw_m5 166 rfl) rfl
theorem q1232 : (Jvm.Cond.methodLink "VillageStoriesLaw" (73 : Nat) ({ cls := "VillageStories", name := "strike", desc := "(I)Z" } : Jvm.MethodName)) ∈ lw_all := lw_g (lw_at lw_m5 170 rfl) rfl
theorem q1244 : (Jvm.Cond.methodLink "VillageStoriesLaw" (77 : Nat) ({ cls := "VillageStories", name := "day", desc := "(I)Z" } : Jvm.MethodName)) ∈ lw_all := lw_g (lw_at lw_m5 182 rfl) rfl
theorem q1248 : (Jvm.Cond.methodLink "VillageStoriesLaw" (81 : Nat) ({ cls := "VillageStories", name := "view", desc := "(I)Z" } : Jvm.MethodName)) ∈ lw_all := lw_g (lw_at lw_m5 186 rfl) rfl
theorem q1252 : (Jvm.Cond.methodLink "VillageStoriesLaw" (85 : Nat) ({ cls := "VillageStories", name := "so", desc := "(I)I" } : Jvm.MethodName)) ∈ lw_all := lw_g (lw_at lw_m5 190 rfl) rfl
theorem q1345 : (Jvm.Cond.methodLink "VillageStoriesLaw" (89 : Nat) ({ cls := "VillageStories", name := "breaks", desc := "(II)I" } : Jvm.MethodName)) ∈ lw_all := lw_g (lw_at lw_m6 43 rfl) rfl
theorem q1394 : (Jvm.Cond.methodLink "VillageStoriesLaw" (42 : Nat) ({ cls := "VillageStories", name := "keep", desc := "(I)Z" } : Jvm.MethodName)) ∈ lw_all := lw_g (lw_at lw_m6 92 rfl) rfl
theorem q1401 : (Jvm.Cond.methodLink "VillageStoriesLaw" (47 : Nat) ({ cls := "VillageStories", name := "apart", desc := "(I)I" } : Jvm.MethodName)) ∈ lw_all := lw_g (lw_at lw_m6 99 rfl) rfl
theorem q1448 : (Jvm.Cond.methodLink "VillageStoriesLaw" (93 : Nat) ({ cls := "VillageStories", name := "worlds", desc := "()I" } : Jvm.MethodName)) ∈ lw_all := lw_g (lw_at lw_m6 146 rfl) rfl
theorem q1481 : (Jvm.Cond.methodLink "VillageStoriesLaw" (97 : Nat) ({ cls := "VillageStories", name := "forms", desc := "()I" } : Jvm.MethodName)) ∈ lw_all := lw_g (lw_at lw_m6 179 rfl) rfl
theorem q1489 : (Jvm.Cond.methodLink "VillageStoriesLaw" (101 : Nat) ({ cls := "VillageStories", name := "form", desc := "(I)Z" } : Jvm.MethodName)) ∈ lw_all := lw_g (lw_at lw_m6 187 rfl) rfl
theorem q1493 : (Jvm.Cond.methodLink "VillageStoriesLaw" (105 : Nat) ({ cls := "VillageStories", name := "name", desc := "()Z" } : Jvm.MethodName)) ∈ lw_all := lw_g (lw_at lw_m6 191 rfl) rfl
theorem q1497 : (Jvm.Cond.methodLink "VillageStoriesLaw" (110 : Nat) ({ cls := "VillageStories", name := "least", desc := "(I)I" } : Jvm.MethodName)) ∈ lw_all := lw_g (lw_at lw_m6 195 rfl) rfl
theorem q1525 : (Jvm.Cond.methodLink "VillageStoriesLaw" (114 : Nat) ({ cls := "VillageStories", name := "core", desc := "(I)I" } : Jvm.MethodName)) ∈ lw_all := lw_g (lw_at lw_m6 223 rfl) rfl
theorem q1559 : (Jvm.Cond.methodLink "VillageStoriesLaw" (118 : Nat) ({ cls := "VillageStories", name := "sure", desc := "(III)I" } : Jvm.MethodName)) ∈ lw_all := lw_g (lw_at lw_m7 17 rfl) rfl
theorem q1571 : (Jvm.Cond.methodLink "VillageStoriesLaw" (122 : Nat) ({ cls := "VillageStories", name := "cause", desc := "(IIII)I" } : Jvm.MethodName)) ∈ lw_all := lw_g (lw_at lw_m7 29 rfl) rfl
theorem q1578 : (Jvm.Cond.methodLink "VillageStoriesLaw" (127 : Nat) ({ cls := "VillageStories", name := "without", desc := "(I)I" } : Jvm.MethodName)) ∈ lw_all := lw_g (lw_at lw_m7 36 rfl) rfl
theorem q1582 : (Jvm.Cond.methodLink "VillageStoriesLaw" (131 : Nat) ({ cls := "VillageStories", name := "questions", desc := "()I" } : Jvm.MethodName)) ∈ lw_all := lw_g (lw_at lw_m7 40 rfl) rfl
theorem q1590 : (Jvm.Cond.methodLink "VillageStoriesLaw" (135 : Nat) ({ cls := "VillageStories", name := "settle", desc := "(I)I" } : Jvm.MethodName)) ∈ lw_all := lw_g (lw_at lw_m7 48 rfl) rfl
theorem q1596 : (Jvm.Cond.methodLink "VillageStoriesLaw" (139 : Nat) ({ cls := "VillageStories", name := "near", desc := "()I" } : Jvm.MethodName)) ∈ lw_all := lw_g (lw_at lw_m7 54 rfl) rfl
theorem q1601 : (Jvm.Cond.methodLink "VillageStoriesLaw" (143 : Nat) ({ cls := "VillageStories", name := "holds", desc := "(I)I" } : Jvm.MethodName)) ∈ lw_all := lw_g (lw_at lw_m7 59 rfl) rfl
theorem q1605 : (Jvm.Cond.methodLink "VillageStoriesLaw" (147 : Nat) ({ cls := "VillageStories", name := "against", desc := "()Z" } : Jvm.MethodName)) ∈ lw_all := lw_g (lw_at lw_m7 63 rfl) rfl
theorem q1609 : (Jvm.Cond.methodLink "VillageStoriesLaw" (151 : Nat) ({ cls := "VillageStories", name := "many", desc := "(I)I" } : Jvm.MethodName)) ∈ lw_all := lw_g (lw_at lw_m7 67 rfl) rfl
theorem q1613 : (Jvm.Cond.methodLink "VillageStoriesLaw" (155 : Nat) ({ cls := "VillageStories", name := "image", desc := "(I)Z" } : Jvm.MethodName)) ∈ lw_all := lw_g (lw_at lw_m7 71 rfl) rfl
theorem q1635 : (Jvm.Cond.methodLink "VillageStoriesLaw" (159 : Nat) ({ cls := "VillageStories", name := "again", desc := "(I)Z" } : Jvm.MethodName)) ∈ lw_all := lw_g (lw_at lw_m7 93 rfl) rfl
theorem q1639 : (Jvm.Cond.classLink "VillageStoriesLaw" (10 : Nat) "VillageStoriesModel") ∈ lw_all := lw_g (lw_at lw_m7 97 rfl) rfl
theorem q1641 : (Jvm.Cond.methodLink "VillageStoriesLaw" (12 : Nat) ({ cls := "VillageStoriesModel", name := "<init>", desc := "()V" } : Jvm.MethodName)) ∈ lw_all := lw_g (lw_at lw_m7 99 rfl) rfl
theorem q1837 : (Jvm.Cond.methodLink "VillageStoriesLaw" (17 : Nat) ({ cls := "VillageStoriesModel", name := "size", desc := "(II)Z" } : Jvm.MethodName)) ∈ lw_all := lw_g (lw_at lw_m8 55 rfl) rfl
theorem q1848 : (Jvm.Cond.methodLink "VillageStoriesLaw" (22 : Nat) ({ cls := "VillageStoriesModel", name := "relation", desc := "(II)I" } : Jvm.MethodName)) ∈ lw_all := lw_g (lw_at lw_m8 66 rfl) rfl
theorem q1852 : (Jvm.Cond.methodLink "VillageStoriesLaw" (27 : Nat) ({ cls := "VillageStoriesModel", name := "facts", desc := "()I" } : Jvm.MethodName)) ∈ lw_all := lw_g (lw_at lw_m8 70 rfl) rfl
theorem q1872 : (Jvm.Cond.methodLink "VillageStoriesLaw" (32 : Nat) ({ cls := "VillageStoriesModel", name := "tell", desc := "(IIIZ)Z" } : Jvm.MethodName)) ∈ lw_all := lw_g (lw_at lw_m8 90 rfl) rfl
theorem q1888 : (Jvm.Cond.methodLink "VillageStoriesLaw" (37 : Nat) ({ cls := "VillageStoriesModel", name := "fact", desc := "(III)I" } : Jvm.MethodName)) ∈ lw_all := lw_g (lw_at lw_m8 106 rfl) rfl
theorem q1892 : (Jvm.Cond.methodLink "VillageStoriesLaw" (41 : Nat) ({ cls := "VillageStoriesModel", name := "known", desc := "(IIIZ)Z" } : Jvm.MethodName)) ∈ lw_all := lw_g (lw_at lw_m8 110 rfl) rfl
theorem q1896 : (Jvm.Cond.methodLink "VillageStoriesLaw" (46 : Nat) ({ cls := "VillageStoriesModel", name := "keep", desc := "(I)Z" } : Jvm.MethodName)) ∈ lw_all := lw_g (lw_at lw_m8 114 rfl) rfl
theorem q1900 : (Jvm.Cond.methodLink "VillageStoriesLaw" (51 : Nat) ({ cls := "VillageStoriesModel", name := "apart", desc := "(I)I" } : Jvm.MethodName)) ∈ lw_all := lw_g (lw_at lw_m8 118 rfl) rfl
theorem q1933 : (Jvm.Cond.methodLink "VillageStoriesLaw" (56 : Nat) ({ cls := "VillageStoriesModel", name := "feed", desc := "(IIIII)I" } : Jvm.MethodName)) ∈ lw_all := lw_g (lw_at lw_m8 151 rfl) rfl
theorem q1941 : (Jvm.Cond.methodLink "VillageStoriesLaw" (60 : Nat) ({ cls := "VillageStoriesModel", name := "end", desc := "(I)I" } : Jvm.MethodName)) ∈ lw_all := lw_g (lw_at lw_m8 159 rfl) rfl
theorem q1945 : (Jvm.Cond.methodLink "VillageStoriesLaw" (64 : Nat) ({ cls := "VillageStoriesModel", name := "story", desc := "()I" } : Jvm.MethodName)) ∈ lw_all := lw_g (lw_at lw_m8 163 rfl) rfl
theorem q2042 : (Jvm.Cond.methodLink "VillageStoriesLaw" (68 : Nat) ({ cls := "VillageStoriesModel", name := "guess", desc := "()I" } : Jvm.MethodName)) ∈ lw_all := lw_g (lw_at lw_m9 20 rfl) rfl
theorem q2046 : (Jvm.Cond.methodLink "VillageStoriesLaw" (72 : Nat) ({ cls := "VillageStoriesModel", name := "fault", desc := "(I)I" } : Jvm.MethodName)) ∈ lw_all := lw_g (lw_at lw_m9 24 rfl) rfl
theorem q2050 : (Jvm.Cond.methodLink "VillageStoriesLaw" (76 : Nat) ({ cls := "VillageStoriesModel", name := "strike", desc := "(I)Z" } : Jvm.MethodName)) ∈ lw_all := lw_g (lw_at lw_m9 28 rfl) rfl
theorem q2054 : (Jvm.Cond.methodLink "VillageStoriesLaw" (80 : Nat) ({ cls := "VillageStoriesModel", name := "day", desc := "(I)Z" } : Jvm.MethodName)) ∈ lw_all := lw_g (lw_at lw_m9 32 rfl) rfl
theorem q2058 : (Jvm.Cond.methodLink "VillageStoriesLaw" (84 : Nat) ({ cls := "VillageStoriesModel", name := "view", desc := "(I)Z" } : Jvm.MethodName)) ∈ lw_all := lw_g (lw_at lw_m9 36 rfl) rfl
theorem q2062 : (Jvm.Cond.methodLink "VillageStoriesLaw" (88 : Nat) ({ cls := "VillageStoriesModel", name := "so", desc := "(I)I" } : Jvm.MethodName)) ∈ lw_all := lw_g (lw_at lw_m9 40 rfl) rfl
theorem q2108 : (Jvm.Cond.methodLink "VillageStoriesLaw" (92 : Nat) ({ cls := "VillageStoriesModel", name := "breaks", desc := "(II)I" } : Jvm.MethodName)) ∈ lw_all := lw_g (lw_at lw_m9 86 rfl) rfl
theorem q2112 : (Jvm.Cond.methodLink "VillageStoriesLaw" (96 : Nat) ({ cls := "VillageStoriesModel", name := "worlds", desc := "()I" } : Jvm.MethodName)) ∈ lw_all := lw_g (lw_at lw_m9 90 rfl) rfl
theorem q2140 : (Jvm.Cond.methodLink "VillageStoriesLaw" (100 : Nat) ({ cls := "VillageStoriesModel", name := "forms", desc := "()I" } : Jvm.MethodName)) ∈ lw_all := lw_g (lw_at lw_m9 118 rfl) rfl
theorem q2152 : (Jvm.Cond.methodLink "VillageStoriesLaw" (104 : Nat) ({ cls := "VillageStoriesModel", name := "form", desc := "(I)Z" } : Jvm.MethodName)) ∈ lw_all := lw_g (lw_at lw_m9 130 rfl) rfl
theorem q2160 : (Jvm.Cond.methodLink "VillageStoriesLaw" (109 : Nat) ({ cls := "VillageStoriesModel", name := "name", desc := "()Z" } : Jvm.MethodName)) ∈ lw_all := lw_g (lw_at lw_m9 138 rfl) rfl
theorem q2164 : (Jvm.Cond.methodLink "VillageStoriesLaw" (113 : Nat) ({ cls := "VillageStoriesModel", name := "least", desc := "(I)I" } : Jvm.MethodName)) ∈ lw_all := lw_g (lw_at lw_m9 142 rfl) rfl
theorem q2172 : (Jvm.Cond.methodLink "VillageStoriesLaw" (117 : Nat) ({ cls := "VillageStoriesModel", name := "core", desc := "(I)I" } : Jvm.MethodName)) ∈ lw_all := lw_g (lw_at lw_m9 150 rfl) rfl
theorem q2194 : (Jvm.Cond.methodLink "VillageStoriesLaw" (121 : Nat) ({ cls := "VillageStoriesModel", name := "sure", desc := "(III)I" } : Jvm.MethodName)) ∈ lw_all := lw_g (lw_at lw_m9 172 rfl) rfl
theorem q2202 : (Jvm.Cond.methodLink "VillageStoriesLaw" (126 : Nat) ({ cls := "VillageStoriesModel", name := "cause", desc := "(IIII)I" } : Jvm.MethodName)) ∈ lw_all := lw_g (lw_at lw_m9 180 rfl) rfl
theorem q2206 : (Jvm.Cond.methodLink "VillageStoriesLaw" (130 : Nat) ({ cls := "VillageStoriesModel", name := "without", desc := "(I)I" } : Jvm.MethodName)) ∈ lw_all := lw_g (lw_at lw_m9 184 rfl) rfl
theorem q2210 : (Jvm.Cond.methodLink "VillageStoriesLaw" (134 : Nat) ({ cls := "VillageStoriesModel", name := "questions", desc := "()I" } : Jvm.MethodName)) ∈ lw_all := lw_g (lw_at lw_m9 188 rfl) rfl
theorem q2222 : (Jvm.Cond.methodLink "VillageStoriesLaw" (138 : Nat) ({ cls := "VillageStoriesModel", name := "settle", desc := "(I)I" } : Jvm.MethodName)) ∈ lw_all := lw_g (lw_at lw_m9 200 rfl) rfl
theorem q2226 : (Jvm.Cond.methodLink "VillageStoriesLaw" (142 : Nat) ({ cls := "VillageStoriesModel", name := "near", desc := "()I" } : Jvm.MethodName)) ∈ lw_all := lw_g (lw_at lw_m9 204 rfl) rfl
theorem q2230 : (Jvm.Cond.methodLink "VillageStoriesLaw" (146 : Nat) ({ cls := "VillageStoriesModel", name := "holds", desc := "(I)I" } : Jvm.MethodName)) ∈ lw_all := lw_g (lw_at lw_m9 208 rfl) rfl
theorem q2234 : (Jvm.Cond.methodLink "VillageStoriesLaw" (150 : Nat) ({ cls := "VillageStoriesModel", name := "against", desc := "()Z" } : Jvm.MethodName)) ∈ lw_all := lw_g (lw_at lw_m9 212 rfl) rfl
theorem q2238 : (Jvm.Cond.methodLink "VillageStoriesLaw" (154 : Nat) ({ cls := "VillageStoriesModel", name := "many", desc := "(I)I" } : Jvm.MethodName)) ∈ lw_all := lw_g (lw_at lw_m9 216 rfl) rfl
theorem q2242 : (Jvm.Cond.methodLink "VillageStoriesLaw" (158 : Nat) ({ cls := "VillageStoriesModel", name := "image", desc := "(I)Z" } : Jvm.MethodName)) ∈ lw_all := lw_g (lw_at lw_m9 220 rfl) rfl
theorem q2253 : (Jvm.Cond.methodLink "VillageStoriesLaw" (162 : Nat) ({ cls := "VillageStoriesModel", name := "again", desc := "(I)Z" } : Jvm.MethodName)) ∈ lw_all := lw_g (lw_at lw_m9 231 rfl) rfl

theorem q1550 : (Jvm.Cond.interfaceMethod "VillageStories$Does" "VillageStories$Does" "does" "(I)Z") ∈ lw_tbl := lw_at lw_m7 8 rfl
set_option maxRecDepth 100000
theorem q1551 : (Jvm.Cond.declares ({ cls := "VillageStories$Does", name := "does", desc := "(I)Z" } : Jvm.MethodName)) ∈ lw_tbl := lw_at lw_m7 9 rfl

theorem q1272 : (Jvm.Cond.declares ({ cls := "VillageStories$Join", name := "is", desc := "(LVillageStories$Part;LVillageStories$Part;LVillageStories$World;)Z" } : Jvm.MethodName)) ∈ lw_tbl := lw_at lw_m5 210 rfl
set_option maxRecDepth 100000
theorem q1273 : (Jvm.Cond.sameMethod "VillageStories$Join" "VillageStories$Join" "is" "(LVillageStories$Part;LVillageStories$Part;LVillageStories$World;)Z") ∈ lw_all := lw_g (lw_at lw_m5 211 rfl) rfl
theorem q2267 : (Jvm.Cond.castable "VillageStories$Join" "java/lang/Object") ∈ lw_tbl := lw_at lw_m10 5 rfl
theorem q2320 : (Jvm.Cond.laysStatic "VillageStories$Join" "AND" "LVillageStories$Join;") ∈ lw_tbl := lw_at lw_m10 58 rfl
theorem q2321 : (Jvm.Cond.laysStatic "VillageStories$Join" "OR" "LVillageStories$Join;") ∈ lw_tbl := lw_at lw_m10 59 rfl
theorem q2322 : (Jvm.Cond.laysStatic "VillageStories$Join" "IF" "LVillageStories$Join;") ∈ lw_tbl := lw_at lw_m10 60 rfl
theorem q2326 : (Jvm.Cond.stringRef "VillageStories$Join" (39 : Nat) "and") ∈ lw_tbl := lw_at lw_m10 64 rfl
theorem q2327 : (Jvm.Cond.stringRef "VillageStories$Join" (47 : Nat) "or") ∈ lw_tbl := lw_at lw_m10 65 rfl
theorem q2328 : (Jvm.Cond.stringRef "VillageStories$Join" (53 : Nat) "if") ∈ lw_tbl := lw_at lw_m10 66 rfl

theorem q127 : (Jvm.Cond.initialized "VillageStories$Token") ∈ lw_all := lw_g (lw_at lw_m1 25 rfl) rfl
set_option maxRecDepth 100000
theorem q489 : (Jvm.Cond.selects "VillageStories$Token" ({ cls := "java/lang/Object", name := "getClass", desc := "()Ljava/lang/Class;" } : Jvm.MethodName) ({ cls := "java/lang/Object", name := "getClass", desc := "()Ljava/lang/Class;" } : Jvm.MethodName)) ∈ lw_all := lw_g (lw_at lw_m2 147 rfl) rfl
theorem q636 : (Jvm.Cond.laysStatic "VillageStories$Token" "END" "LVillageStories$Token;") ∈ lw_tbl := lw_at lw_m3 54 rfl
theorem q811 : (Jvm.Cond.laysStatic "VillageStories$Token" "WORD" "LVillageStories$Token;") ∈ lw_tbl := lw_at lw_m3 229 rfl
theorem q816 : (Jvm.Cond.laysStatic "VillageStories$Token" "BAD" "LVillageStories$Token;") ∈ lw_tbl := lw_at lw_m3 234 rfl
theorem q818 : (Jvm.Cond.laysStatic "VillageStories$Token" "NUMBER" "LVillageStories$Token;") ∈ lw_tbl := lw_at lw_m3 236 rfl
theorem q2279 : (Jvm.Cond.castable "VillageStories$Token" "java/lang/Object") ∈ lw_tbl := lw_at lw_m10 17 rfl

theorem q699 : (Jvm.Cond.sameMethod "[B" "java/lang/Object" "clone" "()Ljava/lang/Object;") ∈ lw_all := lw_g (lw_at lw_m3 117 rfl) rfl
set_option maxRecDepth 100000
theorem q702 : (Jvm.Cond.selects "[B" ({ cls := "[B", name := "clone", desc := "()Ljava/lang/Object;" } : Jvm.MethodName) ({ cls := "java/lang/Object", name := "clone", desc := "()Ljava/lang/Object;" } : Jvm.MethodName)) ∈ lw_all := lw_g (lw_at lw_m3 120 rfl) rfl
theorem q703 : (Jvm.Cond.castable "[B" "java/lang/Cloneable") ∈ lw_tbl := lw_at lw_m3 121 rfl
theorem q2302 : (Jvm.Cond.castable "[B" "java/lang/Object") ∈ lw_tbl := lw_at lw_m10 40 rfl

theorem q2304 : (Jvm.Cond.castable "[I" "java/lang/Object") ∈ lw_tbl := lw_at lw_m10 42 rfl
set_option maxRecDepth 100000

theorem q2303 : (Jvm.Cond.castable "[J" "java/lang/Object") ∈ lw_tbl := lw_at lw_m10 41 rfl
set_option maxRecDepth 100000

theorem q2309 : (Jvm.Cond.castable "[LVillageStories$Join;" "java/lang/Object") ∈ lw_tbl := lw_at lw_m10 47 rfl
set_option maxRecDepth 100000

theorem q2307 : (Jvm.Cond.castable "[LVillageStories$Often;" "java/lang/Object") ∈ lw_tbl := lw_at lw_m10 45 rfl
set_option maxRecDepth 100000

theorem q2305 : (Jvm.Cond.castable "[LVillageStories$State;" "java/lang/Object") ∈ lw_tbl := lw_at lw_m10 43 rfl
set_option maxRecDepth 100000

theorem q2298 : (Jvm.Cond.sameMethod "[Ljava/lang/Object;" "java/lang/Object" "getClass" "()Ljava/lang/Class;") ∈ lw_all := lw_g (lw_at lw_m10 36 rfl) rfl
set_option maxRecDepth 100000
theorem q2299 : (Jvm.Cond.selects "[Ljava/lang/Object;" ({ cls := "java/lang/Object", name := "getClass", desc := "()Ljava/lang/Class;" } : Jvm.MethodName) ({ cls := "java/lang/Object", name := "getClass", desc := "()Ljava/lang/Class;" } : Jvm.MethodName)) ∈ lw_all := lw_g (lw_at lw_m10 37 rfl) rfl
theorem q2301 : (Jvm.Cond.castable "[Ljava/lang/Object;" "java/lang/Object") ∈ lw_tbl := lw_at lw_m10 39 rfl

theorem q2308 : (Jvm.Cond.castable "[Ljava/lang/String;" "java/lang/Object") ∈ lw_tbl := lw_at lw_m10 46 rfl
set_option maxRecDepth 100000

theorem q2306 : (Jvm.Cond.castable "[Z" "java/lang/Object") ∈ lw_tbl := lw_at lw_m10 44 rfl
set_option maxRecDepth 100000

theorem q2310 : (Jvm.Cond.castable "[[I" "java/lang/Object") ∈ lw_tbl := lw_at lw_m10 48 rfl
set_option maxRecDepth 100000

theorem q126 : (Jvm.Cond.initialized "java/lang/Enum") ∈ lw_all := lw_g (lw_at lw_m1 24 rfl) rfl
set_option maxRecDepth 100000

theorem q147 : (Jvm.Cond.initialized "java/lang/Integer$IntegerCache") ∈ lw_all := lw_g (lw_at lw_m1 45 rfl) rfl
set_option maxRecDepth 100000
theorem q1364 : (Jvm.Cond.laysStatic "java/lang/Integer$IntegerCache" "high" "I") ∈ lw_tbl := lw_at lw_m6 62 rfl
theorem q1366 : (Jvm.Cond.laysStatic "java/lang/Integer$IntegerCache" "cache" "[Ljava/lang/Integer;") ∈ lw_tbl := lw_at lw_m6 64 rfl

theorem q118 : (Jvm.Cond.initialized "java/lang/System") ∈ lw_all := lw_g (lw_at lw_m1 16 rfl) rfl
set_option maxRecDepth 100000
theorem q507 : (Jvm.Cond.static ({ cls := "java/lang/System", name := "arraycopy", desc := "(Ljava/lang/Object;ILjava/lang/Object;II)V" } : Jvm.MethodName)) ∈ lw_all := lw_g (lw_at lw_m2 165 rfl) rfl
theorem q508 : (Jvm.Cond.native ({ cls := "java/lang/System", name := "arraycopy", desc := "(Ljava/lang/Object;ILjava/lang/Object;II)V" } : Jvm.MethodName)) ∈ lw_all := lw_g (lw_at lw_m2 166 rfl) rfl

theorem q1513 : (Jvm.Cond.interfaceMethod "java/util/Collection" "java/util/Collection" "toArray" "()[Ljava/lang/Object;") ∈ lw_tbl := lw_at lw_m6 211 rfl
set_option maxRecDepth 100000
theorem q1514 : (Jvm.Cond.declares ({ cls := "java/util/Collection", name := "toArray", desc := "()[Ljava/lang/Object;" } : Jvm.MethodName)) ∈ lw_tbl := lw_at lw_m6 212 rfl

theorem q181 : (Jvm.Cond.arrayOver (Jvm.ClassFile.FieldType.object "java/lang/Object")) ∈ lw_tbl := lw_at lw_m1 79 rfl
set_option maxRecDepth 100000
theorem q196 : (Jvm.Cond.arrayClass Jvm.ClassFile.FieldType.byte) ∈ lw_all := lw_g (lw_at lw_m1 94 rfl) rfl
theorem q197 : (Jvm.Cond.arrayClass Jvm.ClassFile.FieldType.long) ∈ lw_all := lw_g (lw_at lw_m1 95 rfl) rfl
theorem q198 : (Jvm.Cond.arrayClass Jvm.ClassFile.FieldType.int) ∈ lw_all := lw_g (lw_at lw_m1 96 rfl) rfl
theorem q275 : (Jvm.Cond.arrayOver (Jvm.ClassFile.FieldType.object "VillageStories$State")) ∈ lw_tbl := lw_at lw_m1 173 rfl
theorem q1836 : (Jvm.Cond.arrayClass Jvm.ClassFile.FieldType.boolean) ∈ lw_all := lw_g (lw_at lw_m8 54 rfl) rfl
theorem q2319 : (Jvm.Cond.arrayOver (Jvm.ClassFile.FieldType.object "java/lang/String")) ∈ lw_tbl := lw_at lw_m10 57 rfl
theorem q2324 : (Jvm.Cond.arrayOver (Jvm.ClassFile.FieldType.array Jvm.ClassFile.FieldType.int)) ∈ lw_tbl := lw_at lw_m10 62 rfl

