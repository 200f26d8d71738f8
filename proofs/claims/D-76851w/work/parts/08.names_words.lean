theorem q113 : (Jvm.Cond.initialized "WholePacksLaw") ∈ lw_all := lw_g (lw_at lw_m1 0 rfl) rfl
set_option maxRecDepth 100000
theorem q153 : (Jvm.Cond.classLink "WholePacksLaw" (7 : Nat) "WholePacks") ∈ lw_all := lw_g (lw_at lw_m1 40 rfl) rfl
theorem q155 : (Jvm.Cond.methodLink "WholePacksLaw" (9 : Nat) ({ cls := "WholePacks", name := "<init>", desc := "()V" } : Jvm.MethodName)) ∈ lw_all := lw_g (lw_at lw_m1 42 rfl) rfl
theorem q574 : (Jvm.Cond.methodLink "WholePacksLaw" (13 : Nat) ({ cls := "WholePacks", name := "size", desc := "(I)I" } : Jvm.MethodName)) ∈ lw_all := lw_g (lw_at lw_m2 221 rfl) rfl
theorem q592 : (Jvm.Cond.methodLink "WholePacksLaw" (18 : Nat) ({ cls := "WholePacks", name := "cost", desc := "(II)I" } : Jvm.MethodName)) ∈ lw_all := lw_g (lw_at lw_m2 239 rfl) rfl
theorem q597 : (Jvm.Cond.methodLink "WholePacksLaw" (23 : Nat) ({ cls := "WholePacks", name := "rule", desc := "(II)I" } : Jvm.MethodName)) ∈ lw_all := lw_g (lw_at lw_m3 4 rfl) rfl
theorem q611 : (Jvm.Cond.methodLink "WholePacksLaw" (27 : Nat) ({ cls := "WholePacks", name := "factor", desc := "(III)I" } : Jvm.MethodName)) ∈ lw_all := lw_g (lw_at lw_m3 18 rfl) rfl
theorem q617 : (Jvm.Cond.methodLink "WholePacksLaw" (32 : Nat) ({ cls := "WholePacks", name := "bound", desc := "(II)I" } : Jvm.MethodName)) ∈ lw_all := lw_g (lw_at lw_m3 24 rfl) rfl
theorem q621 : (Jvm.Cond.methodLink "WholePacksLaw" (36 : Nat) ({ cls := "WholePacks", name := "less", desc := "()I" } : Jvm.MethodName)) ∈ lw_all := lw_g (lw_at lw_m3 28 rfl) rfl
theorem q625 : (Jvm.Cond.methodLink "WholePacksLaw" (41 : Nat) ({ cls := "WholePacks", name := "feed", desc := "(I)I" } : Jvm.MethodName)) ∈ lw_all := lw_g (lw_at lw_m3 32 rfl) rfl
theorem q630 : (Jvm.Cond.methodLink "WholePacksLaw" (45 : Nat) ({ cls := "WholePacks", name := "read", desc := "()I" } : Jvm.MethodName)) ∈ lw_all := lw_g (lw_at lw_m3 37 rfl) rfl
theorem q763 : (Jvm.Cond.methodLink "WholePacksLaw" (49 : Nat) ({ cls := "WholePacks", name := "ruleOf", desc := "(II)I" } : Jvm.MethodName)) ∈ lw_all := lw_g (lw_at lw_m3 170 rfl) rfl
theorem q767 : (Jvm.Cond.methodLink "WholePacksLaw" (53 : Nat) ({ cls := "WholePacks", name := "solve", desc := "(I)I" } : Jvm.MethodName)) ∈ lw_all := lw_g (lw_at lw_m3 174 rfl) rfl
theorem q888 : (Jvm.Cond.methodLink "WholePacksLaw" (57 : Nat) ({ cls := "WholePacks", name := "entry", desc := "(II)J" } : Jvm.MethodName)) ∈ lw_all := lw_g (lw_at lw_m4 55 rfl) rfl
theorem q895 : (Jvm.Cond.methodLink "WholePacksLaw" (62 : Nat) ({ cls := "WholePacks", name := "amount", desc := "(II)J" } : Jvm.MethodName)) ∈ lw_all := lw_g (lw_at lw_m4 62 rfl) rfl
theorem q919 : (Jvm.Cond.methodLink "WholePacksLaw" (66 : Nat) ({ cls := "WholePacks", name := "value", desc := "(I)J" } : Jvm.MethodName)) ∈ lw_all := lw_g (lw_at lw_m4 86 rfl) rfl
theorem q923 : (Jvm.Cond.methodLink "WholePacksLaw" (71 : Nat) ({ cls := "WholePacks", name := "price", desc := "(II)J" } : Jvm.MethodName)) ∈ lw_all := lw_g (lw_at lw_m4 90 rfl) rfl
theorem q931 : (Jvm.Cond.methodLink "WholePacksLaw" (75 : Nat) ({ cls := "WholePacks", name := "cut", desc := "(II)J" } : Jvm.MethodName)) ∈ lw_all := lw_g (lw_at lw_m4 98 rfl) rfl
theorem q939 : (Jvm.Cond.methodLink "WholePacksLaw" (79 : Nat) ({ cls := "WholePacks", name := "weight", desc := "(III)J" } : Jvm.MethodName)) ∈ lw_all := lw_g (lw_at lw_m4 106 rfl) rfl
theorem q944 : (Jvm.Cond.methodLink "WholePacksLaw" (84 : Nat) ({ cls := "WholePacks", name := "proved", desc := "(I)I" } : Jvm.MethodName)) ∈ lw_all := lw_g (lw_at lw_m4 111 rfl) rfl
theorem q955 : (Jvm.Cond.methodLink "WholePacksLaw" (88 : Nat) ({ cls := "WholePacks", name := "hand", desc := "(II)I" } : Jvm.MethodName)) ∈ lw_all := lw_g (lw_at lw_m4 122 rfl) rfl
theorem q959 : (Jvm.Cond.methodLink "WholePacksLaw" (92 : Nat) ({ cls := "WholePacks", name := "by", desc := "(I)I" } : Jvm.MethodName)) ∈ lw_all := lw_g (lw_at lw_m4 126 rfl) rfl
theorem q964 : (Jvm.Cond.methodLink "WholePacksLaw" (96 : Nat) ({ cls := "WholePacks", name := "points", desc := "(I)J" } : Jvm.MethodName)) ∈ lw_all := lw_g (lw_at lw_m4 131 rfl) rfl
theorem q975 : (Jvm.Cond.methodLink "WholePacksLaw" (100 : Nat) ({ cls := "WholePacks", name := "bites", desc := "()I" } : Jvm.MethodName)) ∈ lw_all := lw_g (lw_at lw_m4 142 rfl) rfl
theorem q979 : (Jvm.Cond.methodLink "WholePacksLaw" (104 : Nat) ({ cls := "WholePacks", name := "box", desc := "(I)I" } : Jvm.MethodName)) ∈ lw_all := lw_g (lw_at lw_m4 146 rfl) rfl
theorem q984 : (Jvm.Cond.methodLink "WholePacksLaw" (108 : Nat) ({ cls := "WholePacks", name := "nth", desc := "(I)I" } : Jvm.MethodName)) ∈ lw_all := lw_g (lw_at lw_m4 151 rfl) rfl
theorem q1173 : (Jvm.Cond.methodLink "WholePacksLaw" (112 : Nat) ({ cls := "WholePacks", name := "many", desc := "(I)I" } : Jvm.MethodName)) ∈ lw_all := lw_g (lw_at lw_m5 100 rfl) rfl
theorem q1184 : (Jvm.Cond.methodLink "WholePacksLaw" (116 : Nat) ({ cls := "WholePacks", name := "breaks", desc := "(I)I" } : Jvm.MethodName)) ∈ lw_all := lw_g (lw_at lw_m5 111 rfl) rfl
theorem q1192 : (Jvm.Cond.methodLink "WholePacksLaw" (120 : Nat) ({ cls := "WholePacks", name := "lost", desc := "(I)I" } : Jvm.MethodName)) ∈ lw_all := lw_g (lw_at lw_m5 119 rfl) rfl
theorem q1207 : (Jvm.Cond.methodLink "WholePacksLaw" (124 : Nat) ({ cls := "WholePacks", name := "branch", desc := "(I)I" } : Jvm.MethodName)) ∈ lw_all := lw_g (lw_at lw_m5 134 rfl) rfl
theorem q1277 : (Jvm.Cond.methodLink "WholePacksLaw" (128 : Nat) ({ cls := "WholePacks", name := "would", desc := "(II)I" } : Jvm.MethodName)) ∈ lw_all := lw_g (lw_at lw_m5 204 rfl) rfl
theorem q1296 : (Jvm.Cond.methodLink "WholePacksLaw" (132 : Nat) ({ cls := "WholePacks", name := "see", desc := "(II)I" } : Jvm.MethodName)) ∈ lw_all := lw_g (lw_at lw_m5 223 rfl) rfl
theorem q1300 : (Jvm.Cond.methodLink "WholePacksLaw" (136 : Nat) ({ cls := "WholePacks", name := "fits", desc := "(II)I" } : Jvm.MethodName)) ∈ lw_all := lw_g (lw_at lw_m5 227 rfl) rfl
theorem q1308 : (Jvm.Cond.methodLink "WholePacksLaw" (140 : Nat) ({ cls := "WholePacks", name := "odds", desc := "(IIIII)J" } : Jvm.MethodName)) ∈ lw_all := lw_g (lw_at lw_m5 235 rfl) rfl
theorem q1316 : (Jvm.Cond.methodLink "WholePacksLaw" (145 : Nat) ({ cls := "WholePacks", name := "mean", desc := "(I)J" } : Jvm.MethodName)) ∈ lw_all := lw_g (lw_at lw_m6 3 rfl) rfl
theorem q1320 : (Jvm.Cond.methodLink "WholePacksLaw" (149 : Nat) ({ cls := "WholePacks", name := "drawn", desc := "(II)I" } : Jvm.MethodName)) ∈ lw_all := lw_g (lw_at lw_m6 7 rfl) rfl
theorem q1330 : (Jvm.Cond.methodLink "WholePacksLaw" (153 : Nat) ({ cls := "WholePacks", name := "offer", desc := "(II)I" } : Jvm.MethodName)) ∈ lw_all := lw_g (lw_at lw_m6 17 rfl) rfl
theorem q1458 : (Jvm.Cond.methodLink "WholePacksLaw" (157 : Nat) ({ cls := "WholePacks", name := "offered", desc := "(II)I" } : Jvm.MethodName)) ∈ lw_all := lw_g (lw_at lw_m6 145 rfl) rfl
theorem q1489 : (Jvm.Cond.methodLink "WholePacksLaw" (161 : Nat) ({ cls := "WholePacks", name := "upTo", desc := "(I)I" } : Jvm.MethodName)) ∈ lw_all := lw_g (lw_at lw_m6 176 rfl) rfl
theorem q1502 : (Jvm.Cond.methodLink "WholePacksLaw" (165 : Nat) ({ cls := "WholePacks", name := "dearest", desc := "()I" } : Jvm.MethodName)) ∈ lw_all := lw_g (lw_at lw_m6 189 rfl) rfl
theorem q1596 : (Jvm.Cond.methodLink "WholePacksLaw" (169 : Nat) ({ cls := "WholePacks", name := "plan", desc := "(III)I" } : Jvm.MethodName)) ∈ lw_all := lw_g (lw_at lw_m7 43 rfl) rfl
theorem q1600 : (Jvm.Cond.methodLink "WholePacksLaw" (173 : Nat) ({ cls := "WholePacks", name := "ends", desc := "()I" } : Jvm.MethodName)) ∈ lw_all := lw_g (lw_at lw_m7 47 rfl) rfl
theorem q1608 : (Jvm.Cond.methodLink "WholePacksLaw" (181 : Nat) ({ cls := "WholePacks", name := "image", desc := "()I" } : Jvm.MethodName)) ∈ lw_all := lw_g (lw_at lw_m7 55 rfl) rfl
theorem q1615 : (Jvm.Cond.methodLink "WholePacksLaw" (185 : Nat) ({ cls := "WholePacks", name := "undo", desc := "()I" } : Jvm.MethodName)) ∈ lw_all := lw_g (lw_at lw_m7 62 rfl) rfl
theorem q1619 : (Jvm.Cond.methodLink "WholePacksLaw" (189 : Nat) ({ cls := "WholePacks", name := "count", desc := "(I)I" } : Jvm.MethodName)) ∈ lw_all := lw_g (lw_at lw_m7 66 rfl) rfl
theorem q1623 : (Jvm.Cond.methodLink "WholePacksLaw" (177 : Nat) ({ cls := "WholePacks", name := "judge", desc := "(II)I" } : Jvm.MethodName)) ∈ lw_all := lw_g (lw_at lw_m7 70 rfl) rfl
theorem q1648 : (Jvm.Cond.methodLink "WholePacksLaw" (193 : Nat) ({ cls := "WholePacks", name := "tape", desc := "(III)I" } : Jvm.MethodName)) ∈ lw_all := lw_g (lw_at lw_m7 95 rfl) rfl
theorem q1688 : (Jvm.Cond.methodLink "WholePacksLaw" (199 : Nat) ({ cls := "WholePacks", name := "item", desc := "(IIJ)I" } : Jvm.MethodName)) ∈ lw_all := lw_g (lw_at lw_m7 135 rfl) rfl
theorem q1715 : (Jvm.Cond.methodLink "WholePacksLaw" (204 : Nat) ({ cls := "WholePacks", name := "peek", desc := "(II)J" } : Jvm.MethodName)) ∈ lw_all := lw_g (lw_at lw_m7 162 rfl) rfl
theorem q1719 : (Jvm.Cond.methodLink "WholePacksLaw" (208 : Nat) ({ cls := "WholePacks", name := "shift", desc := "(IIIII)I" } : Jvm.MethodName)) ∈ lw_all := lw_g (lw_at lw_m7 166 rfl) rfl
theorem q1739 : (Jvm.Cond.classLink "WholePacksLaw" (10 : Nat) "WholePacksModel") ∈ lw_all := lw_g (lw_at lw_m7 186 rfl) rfl
theorem q1741 : (Jvm.Cond.methodLink "WholePacksLaw" (12 : Nat) ({ cls := "WholePacksModel", name := "<init>", desc := "()V" } : Jvm.MethodName)) ∈ lw_all := lw_g (lw_at lw_m7 188 rfl) rfl
theorem q1915 : (Jvm.Cond.methodLink "WholePacksLaw" (17 : Nat) ({ cls := "WholePacksModel", name := "size", desc := "(I)I" } : Jvm.MethodName)) ∈ lw_all := lw_g (lw_at lw_m8 122 rfl) rfl
theorem q1927 : (Jvm.Cond.methodLink "WholePacksLaw" (22 : Nat) ({ cls := "WholePacksModel", name := "cost", desc := "(II)I" } : Jvm.MethodName)) ∈ lw_all := lw_g (lw_at lw_m8 134 rfl) rfl
theorem q1936 : (Jvm.Cond.methodLink "WholePacksLaw" (26 : Nat) ({ cls := "WholePacksModel", name := "rule", desc := "(II)I" } : Jvm.MethodName)) ∈ lw_all := lw_g (lw_at lw_m8 143 rfl) rfl
theorem q1946 : (Jvm.Cond.methodLink "WholePacksLaw" (31 : Nat) ({ cls := "WholePacksModel", name := "factor", desc := "(III)I" } : Jvm.MethodName)) ∈ lw_all := lw_g (lw_at lw_m8 153 rfl) rfl
theorem q1960 : (Jvm.Cond.methodLink "WholePacksLaw" (35 : Nat) ({ cls := "WholePacksModel", name := "bound", desc := "(II)I" } : Jvm.MethodName)) ∈ lw_all := lw_g (lw_at lw_m8 167 rfl) rfl
theorem q1968 : (Jvm.Cond.methodLink "WholePacksLaw" (40 : Nat) ({ cls := "WholePacksModel", name := "less", desc := "()I" } : Jvm.MethodName)) ∈ lw_all := lw_g (lw_at lw_m8 175 rfl) rfl
theorem q1972 : (Jvm.Cond.methodLink "WholePacksLaw" (52 : Nat) ({ cls := "WholePacksModel", name := "ruleOf", desc := "(II)I" } : Jvm.MethodName)) ∈ lw_all := lw_g (lw_at lw_m8 179 rfl) rfl
theorem q1976 : (Jvm.Cond.methodLink "WholePacksLaw" (44 : Nat) ({ cls := "WholePacksModel", name := "feed", desc := "(I)I" } : Jvm.MethodName)) ∈ lw_all := lw_g (lw_at lw_m8 183 rfl) rfl
theorem q1981 : (Jvm.Cond.methodLink "WholePacksLaw" (48 : Nat) ({ cls := "WholePacksModel", name := "read", desc := "()I" } : Jvm.MethodName)) ∈ lw_all := lw_g (lw_at lw_m8 188 rfl) rfl
theorem q2020 : (Jvm.Cond.methodLink "WholePacksLaw" (56 : Nat) ({ cls := "WholePacksModel", name := "solve", desc := "(I)I" } : Jvm.MethodName)) ∈ lw_all := lw_g (lw_at lw_m8 227 rfl) rfl
theorem q2096 : (Jvm.Cond.methodLink "WholePacksLaw" (61 : Nat) ({ cls := "WholePacksModel", name := "entry", desc := "(II)J" } : Jvm.MethodName)) ∈ lw_all := lw_g (lw_at lw_m9 63 rfl) rfl
theorem q2102 : (Jvm.Cond.methodLink "WholePacksLaw" (65 : Nat) ({ cls := "WholePacksModel", name := "amount", desc := "(II)J" } : Jvm.MethodName)) ∈ lw_all := lw_g (lw_at lw_m9 69 rfl) rfl
theorem q2120 : (Jvm.Cond.methodLink "WholePacksLaw" (70 : Nat) ({ cls := "WholePacksModel", name := "value", desc := "(I)J" } : Jvm.MethodName)) ∈ lw_all := lw_g (lw_at lw_m9 87 rfl) rfl
theorem q2124 : (Jvm.Cond.methodLink "WholePacksLaw" (74 : Nat) ({ cls := "WholePacksModel", name := "price", desc := "(II)J" } : Jvm.MethodName)) ∈ lw_all := lw_g (lw_at lw_m9 91 rfl) rfl
theorem q2128 : (Jvm.Cond.methodLink "WholePacksLaw" (78 : Nat) ({ cls := "WholePacksModel", name := "cut", desc := "(II)J" } : Jvm.MethodName)) ∈ lw_all := lw_g (lw_at lw_m9 95 rfl) rfl
theorem q2136 : (Jvm.Cond.methodLink "WholePacksLaw" (83 : Nat) ({ cls := "WholePacksModel", name := "weight", desc := "(III)J" } : Jvm.MethodName)) ∈ lw_all := lw_g (lw_at lw_m9 103 rfl) rfl
theorem q2141 : (Jvm.Cond.methodLink "WholePacksLaw" (87 : Nat) ({ cls := "WholePacksModel", name := "proved", desc := "(I)I" } : Jvm.MethodName)) ∈ lw_all := lw_g (lw_at lw_m9 108 rfl) rfl
theorem q2150 : (Jvm.Cond.methodLink "WholePacksLaw" (91 : Nat) ({ cls := "WholePacksModel", name := "hand", desc := "(II)I" } : Jvm.MethodName)) ∈ lw_all := lw_g (lw_at lw_m9 117 rfl) rfl
theorem q2154 : (Jvm.Cond.methodLink "WholePacksLaw" (95 : Nat) ({ cls := "WholePacksModel", name := "by", desc := "(I)I" } : Jvm.MethodName)) ∈ lw_all := lw_g (lw_at lw_m9 121 rfl) rfl
theorem q2159 : (Jvm.Cond.methodLink "WholePacksLaw" (99 : Nat) ({ cls := "WholePacksModel", name := "points", desc := "(I)J" } : Jvm.MethodName)) ∈ lw_all := lw_g (lw_at lw_m9 126 rfl) rfl
theorem q2167 : (Jvm.Cond.methodLink "WholePacksLaw" (103 : Nat) ({ cls := "WholePacksModel", name := "bites", desc := "()I" } : Jvm.MethodName)) ∈ lw_all := lw_g (lw_at lw_m9 134 rfl) rfl
theorem q2172 : (Jvm.Cond.methodLink "WholePacksLaw" (107 : Nat) ({ cls := "WholePacksModel", name := "box", desc := "(I)I" } : Jvm.MethodName)) ∈ lw_all := lw_g (lw_at lw_m9 139 rfl) rfl
theorem q2177 : (Jvm.Cond.methodLink "WholePacksLaw" (111 : Nat) ({ cls := "WholePacksModel", name := "nth", desc := "(I)I" } : Jvm.MethodName)) ∈ lw_all := lw_g (lw_at lw_m9 144 rfl) rfl
theorem q2203 : (Jvm.Cond.methodLink "WholePacksLaw" (115 : Nat) ({ cls := "WholePacksModel", name := "many", desc := "(I)I" } : Jvm.MethodName)) ∈ lw_all := lw_g (lw_at lw_m9 170 rfl) rfl
theorem q2207 : (Jvm.Cond.methodLink "WholePacksLaw" (119 : Nat) ({ cls := "WholePacksModel", name := "breaks", desc := "(I)I" } : Jvm.MethodName)) ∈ lw_all := lw_g (lw_at lw_m9 174 rfl) rfl
theorem q2219 : (Jvm.Cond.methodLink "WholePacksLaw" (123 : Nat) ({ cls := "WholePacksModel", name := "lost", desc := "(I)I" } : Jvm.MethodName)) ∈ lw_all := lw_g (lw_at lw_m9 186 rfl) rfl
theorem q2227 : (Jvm.Cond.methodLink "WholePacksLaw" (127 : Nat) ({ cls := "WholePacksModel", name := "branch", desc := "(I)I" } : Jvm.MethodName)) ∈ lw_all := lw_g (lw_at lw_m9 194 rfl) rfl
theorem q2255 : (Jvm.Cond.methodLink "WholePacksLaw" (131 : Nat) ({ cls := "WholePacksModel", name := "would", desc := "(II)I" } : Jvm.MethodName)) ∈ lw_all := lw_g (lw_at lw_m9 222 rfl) rfl
theorem q2267 : (Jvm.Cond.methodLink "WholePacksLaw" (135 : Nat) ({ cls := "WholePacksModel", name := "see", desc := "(II)I" } : Jvm.MethodName)) ∈ lw_all := lw_g (lw_at lw_m9 234 rfl) rfl
theorem q2271 : (Jvm.Cond.methodLink "WholePacksLaw" (139 : Nat) ({ cls := "WholePacksModel", name := "fits", desc := "(II)I" } : Jvm.MethodName)) ∈ lw_all := lw_g (lw_at lw_m9 238 rfl) rfl
theorem q2279 : (Jvm.Cond.methodLink "WholePacksLaw" (144 : Nat) ({ cls := "WholePacksModel", name := "odds", desc := "(IIIII)J" } : Jvm.MethodName)) ∈ lw_all := lw_g (lw_at lw_m10 6 rfl) rfl
theorem q2284 : (Jvm.Cond.methodLink "WholePacksLaw" (148 : Nat) ({ cls := "WholePacksModel", name := "mean", desc := "(I)J" } : Jvm.MethodName)) ∈ lw_all := lw_g (lw_at lw_m10 11 rfl) rfl
theorem q2288 : (Jvm.Cond.methodLink "WholePacksLaw" (152 : Nat) ({ cls := "WholePacksModel", name := "drawn", desc := "(II)I" } : Jvm.MethodName)) ∈ lw_all := lw_g (lw_at lw_m10 15 rfl) rfl
theorem q2306 : (Jvm.Cond.methodLink "WholePacksLaw" (156 : Nat) ({ cls := "WholePacksModel", name := "offer", desc := "(II)I" } : Jvm.MethodName)) ∈ lw_all := lw_g (lw_at lw_m10 33 rfl) rfl
theorem q2314 : (Jvm.Cond.methodLink "WholePacksLaw" (160 : Nat) ({ cls := "WholePacksModel", name := "offered", desc := "(II)I" } : Jvm.MethodName)) ∈ lw_all := lw_g (lw_at lw_m10 41 rfl) rfl
theorem q2327 : (Jvm.Cond.methodLink "WholePacksLaw" (164 : Nat) ({ cls := "WholePacksModel", name := "upTo", desc := "(I)I" } : Jvm.MethodName)) ∈ lw_all := lw_g (lw_at lw_m10 54 rfl) rfl
theorem q2331 : (Jvm.Cond.methodLink "WholePacksLaw" (168 : Nat) ({ cls := "WholePacksModel", name := "dearest", desc := "()I" } : Jvm.MethodName)) ∈ lw_all := lw_g (lw_at lw_m10 58 rfl) rfl
theorem q2339 : (Jvm.Cond.methodLink "WholePacksLaw" (172 : Nat) ({ cls := "WholePacksModel", name := "plan", desc := "(III)I" } : Jvm.MethodName)) ∈ lw_all := lw_g (lw_at lw_m10 66 rfl) rfl
theorem q2346 : (Jvm.Cond.methodLink "WholePacksLaw" (176 : Nat) ({ cls := "WholePacksModel", name := "ends", desc := "()I" } : Jvm.MethodName)) ∈ lw_all := lw_g (lw_at lw_m10 73 rfl) rfl
theorem q2354 : (Jvm.Cond.methodLink "WholePacksLaw" (180 : Nat) ({ cls := "WholePacksModel", name := "judge", desc := "(II)I" } : Jvm.MethodName)) ∈ lw_all := lw_g (lw_at lw_m10 81 rfl) rfl
theorem q2361 : (Jvm.Cond.methodLink "WholePacksLaw" (184 : Nat) ({ cls := "WholePacksModel", name := "image", desc := "()I" } : Jvm.MethodName)) ∈ lw_all := lw_g (lw_at lw_m10 88 rfl) rfl
theorem q2365 : (Jvm.Cond.methodLink "WholePacksLaw" (188 : Nat) ({ cls := "WholePacksModel", name := "undo", desc := "()I" } : Jvm.MethodName)) ∈ lw_all := lw_g (lw_at lw_m10 92 rfl) rfl
theorem q2369 : (Jvm.Cond.methodLink "WholePacksLaw" (192 : Nat) ({ cls := "WholePacksModel", name := "count", desc := "(I)I" } : Jvm.MethodName)) ∈ lw_all := lw_g (lw_at lw_m10 96 rfl) rfl
theorem q2373 : (Jvm.Cond.methodLink "WholePacksLaw" (196 : Nat) ({ cls := "WholePacksModel", name := "tape", desc := "(III)I" } : Jvm.MethodName)) ∈ lw_all := lw_g (lw_at lw_m10 100 rfl) rfl
theorem q2377 : (Jvm.Cond.methodLink "WholePacksLaw" (203 : Nat) ({ cls := "WholePacksModel", name := "item", desc := "(IIJ)I" } : Jvm.MethodName)) ∈ lw_all := lw_g (lw_at lw_m10 104 rfl) rfl
theorem q2384 : (Jvm.Cond.methodLink "WholePacksLaw" (207 : Nat) ({ cls := "WholePacksModel", name := "peek", desc := "(II)J" } : Jvm.MethodName)) ∈ lw_all := lw_g (lw_at lw_m10 111 rfl) rfl
theorem q2388 : (Jvm.Cond.methodLink "WholePacksLaw" (212 : Nat) ({ cls := "WholePacksModel", name := "shift", desc := "(IIIII)I" } : Jvm.MethodName)) ∈ lw_all := lw_g (lw_at lw_m10 115 rfl) rfl
theorem q2392 : (Jvm.Cond.constantLong "WholePacksLaw" (197 : Nat) (4294967295 : Int64)) ∈ lw_all := lw_g (lw_at lw_m10 119 rfl) rfl
theorem q1606 : (Jvm.Cond.interfaceMethod "WholePacks$Change" "WholePacks$Change" "does" "(II)V") ∈ lw_tbl := lw_at lw_m7 53 rfl
set_option maxRecDepth 100000
theorem q1607 : (Jvm.Cond.declares ({ cls := "WholePacks$Change", name := "does", desc := "(II)V" } : Jvm.MethodName)) ∈ lw_tbl := lw_at lw_m7 54 rfl
theorem q2400 : (Jvm.Cond.castable "WholePacks$Change" "java/lang/Object") ∈ lw_tbl := lw_at lw_m10 127 rfl
theorem q1155 : (Jvm.Cond.interfaceMethod "WholePacks$Left" "WholePacks$Left" "of" "(JJ)J") ∈ lw_tbl := lw_at lw_m5 82 rfl
set_option maxRecDepth 100000
theorem q1156 : (Jvm.Cond.declares ({ cls := "WholePacks$Left", name := "of", desc := "(JJ)J" } : Jvm.MethodName)) ∈ lw_tbl := lw_at lw_m5 83 rfl
theorem q2399 : (Jvm.Cond.castable "WholePacks$Left" "java/lang/Object") ∈ lw_tbl := lw_at lw_m10 126 rfl
theorem q1159 : (Jvm.Cond.interfaceMethod "WholePacks$Look" "WholePacks$Look" "goesOn" "(III)Z") ∈ lw_tbl := lw_at lw_m5 86 rfl
set_option maxRecDepth 100000
theorem q1160 : (Jvm.Cond.declares ({ cls := "WholePacks$Look", name := "goesOn", desc := "(III)Z" } : Jvm.MethodName)) ∈ lw_tbl := lw_at lw_m5 87 rfl
theorem q2436 : (Jvm.Cond.castable "[B" "java/lang/Object") ∈ lw_tbl := lw_at lw_m10 163 rfl
set_option maxRecDepth 100000
theorem q2430 : (Jvm.Cond.castable "[I" "java/lang/Object") ∈ lw_tbl := lw_at lw_m10 157 rfl
set_option maxRecDepth 100000
theorem q2432 : (Jvm.Cond.castable "[J" "java/lang/Object") ∈ lw_tbl := lw_at lw_m10 159 rfl
set_option maxRecDepth 100000
theorem q2434 : (Jvm.Cond.castable "[LWholePacks$Change;" "java/lang/Object") ∈ lw_tbl := lw_at lw_m10 161 rfl
set_option maxRecDepth 100000
theorem q2431 : (Jvm.Cond.castable "[LWholePacks$Cut;" "java/lang/Object") ∈ lw_tbl := lw_at lw_m10 158 rfl
set_option maxRecDepth 100000
theorem q2435 : (Jvm.Cond.castable "[LWholePacks$Found;" "java/lang/Object") ∈ lw_tbl := lw_at lw_m10 162 rfl
set_option maxRecDepth 100000
theorem q2433 : (Jvm.Cond.castable "[LWholePacks$Left;" "java/lang/Object") ∈ lw_tbl := lw_at lw_m10 160 rfl
set_option maxRecDepth 100000
theorem q2438 : (Jvm.Cond.castable "[LWholePacks$Node;" "java/lang/Object") ∈ lw_tbl := lw_at lw_m10 165 rfl
set_option maxRecDepth 100000
theorem q2429 : (Jvm.Cond.castable "[LWholePacks$Rule;" "java/lang/Object") ∈ lw_tbl := lw_at lw_m10 156 rfl
set_option maxRecDepth 100000
theorem q2439 : (Jvm.Cond.castable "[LWholePacks$Tape;" "java/lang/Object") ∈ lw_tbl := lw_at lw_m10 166 rfl
set_option maxRecDepth 100000
theorem q2426 : (Jvm.Cond.sameMethod "[Ljava/lang/Object;" "java/lang/Object" "getClass" "()Ljava/lang/Class;") ∈ lw_all := lw_g (lw_at lw_m10 153 rfl) rfl
set_option maxRecDepth 100000
theorem q2427 : (Jvm.Cond.selects "[Ljava/lang/Object;" ({ cls := "java/lang/Object", name := "getClass", desc := "()Ljava/lang/Class;" } : Jvm.MethodName) ({ cls := "java/lang/Object", name := "getClass", desc := "()Ljava/lang/Class;" } : Jvm.MethodName)) ∈ lw_all := lw_g (lw_at lw_m10 154 rfl) rfl
theorem q2437 : (Jvm.Cond.castable "[Ljava/lang/Object;" "java/lang/Object") ∈ lw_tbl := lw_at lw_m10 164 rfl
theorem q2440 : (Jvm.Cond.castable "[S" "java/lang/Object") ∈ lw_tbl := lw_at lw_m10 167 rfl
set_option maxRecDepth 100000
theorem q2441 : (Jvm.Cond.castable "[Z" "java/lang/Object") ∈ lw_tbl := lw_at lw_m10 168 rfl
set_option maxRecDepth 100000
theorem q1102 : (Jvm.Cond.interfaceMethod "java/lang/Comparable" "java/lang/Comparable" "compareTo" "(Ljava/lang/Object;)I") ∈ lw_tbl := lw_at lw_m5 29 rfl
set_option maxRecDepth 100000
theorem q1103 : (Jvm.Cond.declares ({ cls := "java/lang/Comparable", name := "compareTo", desc := "(Ljava/lang/Object;)I" } : Jvm.MethodName)) ∈ lw_tbl := lw_at lw_m5 30 rfl
theorem q134 : (Jvm.Cond.initialized "java/lang/System") ∈ lw_all := lw_g (lw_at lw_m1 21 rfl) rfl
set_option maxRecDepth 100000
theorem q761 : (Jvm.Cond.static ({ cls := "java/lang/System", name := "arraycopy", desc := "(Ljava/lang/Object;ILjava/lang/Object;II)V" } : Jvm.MethodName)) ∈ lw_all := lw_g (lw_at lw_m3 168 rfl) rfl
theorem q762 : (Jvm.Cond.native ({ cls := "java/lang/System", name := "arraycopy", desc := "(Ljava/lang/Object;ILjava/lang/Object;II)V" } : Jvm.MethodName)) ∈ lw_all := lw_g (lw_at lw_m3 169 rfl) rfl
theorem q1079 : (Jvm.Cond.interfaceMethod "java/util/Comparator" "java/util/Comparator" "compare" "(Ljava/lang/Object;Ljava/lang/Object;)I") ∈ lw_tbl := lw_at lw_m5 6 rfl
set_option maxRecDepth 100000
theorem q1080 : (Jvm.Cond.declares ({ cls := "java/util/Comparator", name := "compare", desc := "(Ljava/lang/Object;Ljava/lang/Object;)I" } : Jvm.MethodName)) ∈ lw_tbl := lw_at lw_m5 7 rfl
theorem q1570 : (Jvm.Cond.interfaceMethod "java/util/Iterator" "java/util/Iterator" "hasNext" "()Z") ∈ lw_tbl := lw_at lw_m7 17 rfl
set_option maxRecDepth 100000
theorem q1571 : (Jvm.Cond.declares ({ cls := "java/util/Iterator", name := "hasNext", desc := "()Z" } : Jvm.MethodName)) ∈ lw_tbl := lw_at lw_m7 18 rfl
theorem q1580 : (Jvm.Cond.interfaceMethod "java/util/Iterator" "java/util/Iterator" "next" "()Ljava/lang/Object;") ∈ lw_tbl := lw_at lw_m7 27 rfl
theorem q1581 : (Jvm.Cond.declares ({ cls := "java/util/Iterator", name := "next", desc := "()Ljava/lang/Object;" } : Jvm.MethodName)) ∈ lw_tbl := lw_at lw_m7 28 rfl
theorem q1260 : (Jvm.Cond.publicMethod ({ cls := "java/util/Map", name := "size", desc := "()I" } : Jvm.MethodName)) ∈ lw_tbl := lw_at lw_m5 187 rfl
set_option maxRecDepth 100000
theorem q1261 : (Jvm.Cond.declares ({ cls := "java/util/Map", name := "size", desc := "()I" } : Jvm.MethodName)) ∈ lw_tbl := lw_at lw_m5 188 rfl
theorem q1529 : (Jvm.Cond.interfaceMethod "java/util/Set" "java/util/Set" "iterator" "()Ljava/util/Iterator;") ∈ lw_tbl := lw_at lw_m6 216 rfl
set_option maxRecDepth 100000
theorem q1530 : (Jvm.Cond.declares ({ cls := "java/util/Set", name := "iterator", desc := "()Ljava/util/Iterator;" } : Jvm.MethodName)) ∈ lw_tbl := lw_at lw_m6 217 rfl
theorem q1566 : (Jvm.Cond.declares ({ cls := "java/util/TreeMap$NavigableSubMap", name := "keyIterator", desc := "()Ljava/util/Iterator;" } : Jvm.MethodName)) ∈ lw_tbl := lw_at lw_m7 13 rfl
set_option maxRecDepth 100000
theorem q1567 : (Jvm.Cond.selects "java/util/TreeMap$NavigableSubMap" ({ cls := "java/util/TreeMap$NavigableSubMap", name := "keyIterator", desc := "()Ljava/util/Iterator;" } : Jvm.MethodName) ({ cls := "java/util/TreeMap$NavigableSubMap", name := "keyIterator", desc := "()Ljava/util/Iterator;" } : Jvm.MethodName)) ∈ lw_all := lw_g (lw_at lw_m7 14 rfl) rfl
theorem q168 : (Jvm.Cond.arrayOver (Jvm.ClassFile.FieldType.object "WholePacks$Rule")) ∈ lw_tbl := lw_at lw_m1 55 rfl
set_option maxRecDepth 100000
theorem q190 : (Jvm.Cond.arrayClass Jvm.ClassFile.FieldType.int) ∈ lw_all := lw_g (lw_at lw_m1 77 rfl) rfl
theorem q247 : (Jvm.Cond.arrayOver (Jvm.ClassFile.FieldType.object "WholePacks$Cut")) ∈ lw_tbl := lw_at lw_m1 134 rfl
theorem q273 : (Jvm.Cond.arrayClass Jvm.ClassFile.FieldType.long) ∈ lw_all := lw_g (lw_at lw_m1 160 rfl) rfl
theorem q359 : (Jvm.Cond.arrayOver (Jvm.ClassFile.FieldType.object "WholePacks$Left")) ∈ lw_tbl := lw_at lw_m2 6 rfl
theorem q361 : (Jvm.Cond.arrayOver (Jvm.ClassFile.FieldType.object "WholePacks$Change")) ∈ lw_tbl := lw_at lw_m2 8 rfl
theorem q363 : (Jvm.Cond.arrayOver (Jvm.ClassFile.FieldType.object "WholePacks$Found")) ∈ lw_tbl := lw_at lw_m2 10 rfl
theorem q373 : (Jvm.Cond.arrayClass Jvm.ClassFile.FieldType.byte) ∈ lw_all := lw_g (lw_at lw_m2 20 rfl) rfl
theorem q388 : (Jvm.Cond.arrayOver (Jvm.ClassFile.FieldType.object "java/lang/Object")) ∈ lw_tbl := lw_at lw_m2 35 rfl
theorem q403 : (Jvm.Cond.arrayOver (Jvm.ClassFile.FieldType.object "WholePacks$Node")) ∈ lw_tbl := lw_at lw_m2 50 rfl
theorem q408 : (Jvm.Cond.arrayOver (Jvm.ClassFile.FieldType.object "WholePacks$Tape")) ∈ lw_tbl := lw_at lw_m2 55 rfl
theorem q1686 : (Jvm.Cond.arrayClass Jvm.ClassFile.FieldType.short) ∈ lw_all := lw_g (lw_at lw_m7 133 rfl) rfl
theorem q1687 : (Jvm.Cond.arrayClass Jvm.ClassFile.FieldType.boolean) ∈ lw_all := lw_g (lw_at lw_m7 134 rfl) rfl
