theorem q136 : (Jvm.Cond.initialized "VaneCourtLaw") ∈ lw_all := lw_g (lw_at lw_m1 0 rfl) rfl
set_option maxRecDepth 100000
theorem q172 : (Jvm.Cond.classLink "VaneCourtLaw" (7 : Nat) "VaneCourt") ∈ lw_all := lw_g (lw_at lw_m1 36 rfl) rfl
theorem q174 : (Jvm.Cond.methodLink "VaneCourtLaw" (9 : Nat) ({ cls := "VaneCourt", name := "<init>", desc := "()V" } : Jvm.MethodName)) ∈ lw_all := lw_g (lw_at lw_m1 38 rfl) rfl
theorem q279 : (Jvm.Cond.methodLink "VaneCourtLaw" (13 : Nat) ({ cls := "VaneCourt", name := "newCase", desc := "(IIII)I" } : Jvm.MethodName)) ∈ lw_all := lw_g (lw_at lw_m1 143 rfl) rfl
theorem q290 : (Jvm.Cond.methodLink "VaneCourtLaw" (18 : Nat) ({ cls := "VaneCourt", name := "feed", desc := "(IIIII)I" } : Jvm.MethodName)) ∈ lw_all := lw_g (lw_at lw_m1 154 rfl) rfl
theorem q298 : (Jvm.Cond.methodLink "VaneCourtLaw" (23 : Nat) ({ cls := "VaneCourt", name := "end", desc := "(I)I" } : Jvm.MethodName)) ∈ lw_all := lw_g (lw_at lw_m1 162 rfl) rfl
theorem q302 : (Jvm.Cond.methodLink "VaneCourtLaw" (28 : Nat) ({ cls := "VaneCourt", name := "text", desc := "()I" } : Jvm.MethodName)) ∈ lw_all := lw_g (lw_at lw_m1 166 rfl) rfl
theorem q875 : (Jvm.Cond.methodLink "VaneCourtLaw" (33 : Nat) ({ cls := "VaneCourt", name := "fault", desc := "(I)I" } : Jvm.MethodName)) ∈ lw_all := lw_g (lw_at lw_m4 19 rfl) rfl
theorem q879 : (Jvm.Cond.methodLink "VaneCourtLaw" (37 : Nat) ({ cls := "VaneCourt", name := "by", desc := "(I)Z" } : Jvm.MethodName)) ∈ lw_all := lw_g (lw_at lw_m4 23 rfl) rfl
theorem q887 : (Jvm.Cond.methodLink "VaneCourtLaw" (63 : Nat) ({ cls := "VaneCourt", name := "hour", desc := "(I)I" } : Jvm.MethodName)) ∈ lw_all := lw_g (lw_at lw_m4 31 rfl) rfl
theorem q1065 : (Jvm.Cond.methodLink "VaneCourtLaw" (42 : Nat) ({ cls := "VaneCourt", name := "call", desc := "(I)Z" } : Jvm.MethodName)) ∈ lw_all := lw_g (lw_at lw_m4 209 rfl) rfl
theorem q1084 : (Jvm.Cond.methodLink "VaneCourtLaw" (46 : Nat) ({ cls := "VaneCourt", name := "delay", desc := "()I" } : Jvm.MethodName)) ∈ lw_all := lw_g (lw_at lw_m4 228 rfl) rfl
theorem q1092 : (Jvm.Cond.methodLink "VaneCourtLaw" (50 : Nat) ({ cls := "VaneCourt", name := "appeal", desc := "(I)Z" } : Jvm.MethodName)) ∈ lw_all := lw_g (lw_at lw_m4 236 rfl) rfl
theorem q1104 : (Jvm.Cond.methodLink "VaneCourtLaw" (54 : Nat) ({ cls := "VaneCourt", name := "gust", desc := "(II)Z" } : Jvm.MethodName)) ∈ lw_all := lw_g (lw_at lw_m5 8 rfl) rfl
theorem q1108 : (Jvm.Cond.methodLink "VaneCourtLaw" (59 : Nat) ({ cls := "VaneCourt", name := "withdraw", desc := "()I" } : Jvm.MethodName)) ∈ lw_all := lw_g (lw_at lw_m5 12 rfl) rfl
theorem q1115 : (Jvm.Cond.methodLink "VaneCourtLaw" (67 : Nat) ({ cls := "VaneCourt", name := "played", desc := "(I)I" } : Jvm.MethodName)) ∈ lw_all := lw_g (lw_at lw_m5 19 rfl) rfl
theorem q1157 : (Jvm.Cond.methodLink "VaneCourtLaw" (71 : Nat) ({ cls := "VaneCourt", name := "decades", desc := "(II)I" } : Jvm.MethodName)) ∈ lw_all := lw_g (lw_at lw_m5 61 rfl) rfl
theorem q1165 : (Jvm.Cond.methodLink "VaneCourtLaw" (76 : Nat) ({ cls := "VaneCourt", name := "undo", desc := "()I" } : Jvm.MethodName)) ∈ lw_all := lw_g (lw_at lw_m5 69 rfl) rfl
theorem q1170 : (Jvm.Cond.methodLink "VaneCourtLaw" (80 : Nat) ({ cls := "VaneCourt", name := "ofCase", desc := "(II)I" } : Jvm.MethodName)) ∈ lw_all := lw_g (lw_at lw_m5 74 rfl) rfl
theorem q1174 : (Jvm.Cond.methodLink "VaneCourtLaw" (84 : Nat) ({ cls := "VaneCourt", name := "is", desc := "(I)I" } : Jvm.MethodName)) ∈ lw_all := lw_g (lw_at lw_m5 78 rfl) rfl
theorem q1178 : (Jvm.Cond.methodLink "VaneCourtLaw" (88 : Nat) ({ cls := "VaneCourt", name := "book", desc := "(II)I" } : Jvm.MethodName)) ∈ lw_all := lw_g (lw_at lw_m5 82 rfl) rfl
theorem q1182 : (Jvm.Cond.methodLink "VaneCourtLaw" (92 : Nat) ({ cls := "VaneCourt", name := "foretold", desc := "(II)I" } : Jvm.MethodName)) ∈ lw_all := lw_g (lw_at lw_m5 86 rfl) rfl
theorem q1190 : (Jvm.Cond.methodLink "VaneCourtLaw" (96 : Nat) ({ cls := "VaneCourt", name := "ends", desc := "(IIII)I" } : Jvm.MethodName)) ∈ lw_all := lw_g (lw_at lw_m5 94 rfl) rfl
theorem q1202 : (Jvm.Cond.methodLink "VaneCourtLaw" (100 : Nat) ({ cls := "VaneCourt", name := "best", desc := "(IZI)I" } : Jvm.MethodName)) ∈ lw_all := lw_g (lw_at lw_m5 106 rfl) rfl
theorem q1206 : (Jvm.Cond.methodLink "VaneCourtLaw" (105 : Nat) ({ cls := "VaneCourt", name := "harshest", desc := "(I)I" } : Jvm.MethodName)) ∈ lw_all := lw_g (lw_at lw_m5 110 rfl) rfl
theorem q1211 : (Jvm.Cond.methodLink "VaneCourtLaw" (109 : Nat) ({ cls := "VaneCourt", name := "odds", desc := "(Z)J" } : Jvm.MethodName)) ∈ lw_all := lw_g (lw_at lw_m5 115 rfl) rfl
theorem q1226 : (Jvm.Cond.methodLink "VaneCourtLaw" (114 : Nat) ({ cls := "VaneCourt", name := "clash", desc := "(I)I" } : Jvm.MethodName)) ∈ lw_all := lw_g (lw_at lw_m5 130 rfl) rfl
theorem q1234 : (Jvm.Cond.methodLink "VaneCourtLaw" (118 : Nat) ({ cls := "VaneCourt", name := "leastFacts", desc := "(I)I" } : Jvm.MethodName)) ∈ lw_all := lw_g (lw_at lw_m5 138 rfl) rfl
theorem q1238 : (Jvm.Cond.methodLink "VaneCourtLaw" (122 : Nat) ({ cls := "VaneCourt", name := "game", desc := "(IZZ)I" } : Jvm.MethodName)) ∈ lw_all := lw_g (lw_at lw_m5 142 rfl) rfl
theorem q1248 : (Jvm.Cond.methodLink "VaneCourtLaw" (127 : Nat) ({ cls := "VaneCourt", name := "session", desc := "(II)I" } : Jvm.MethodName)) ∈ lw_all := lw_g (lw_at lw_m5 152 rfl) rfl
theorem q1260 : (Jvm.Cond.methodLink "VaneCourtLaw" (131 : Nat) ({ cls := "VaneCourt", name := "record", desc := "(IIZ)I" } : Jvm.MethodName)) ∈ lw_all := lw_g (lw_at lw_m5 164 rfl) rfl
theorem q1264 : (Jvm.Cond.methodLink "VaneCourtLaw" (136 : Nat) ({ cls := "VaneCourt", name := "turned", desc := "()I" } : Jvm.MethodName)) ∈ lw_all := lw_g (lw_at lw_m5 168 rfl) rfl
theorem q1272 : (Jvm.Cond.methodLink "VaneCourtLaw" (140 : Nat) ({ cls := "VaneCourt", name := "fewestWrong", desc := "()I" } : Jvm.MethodName)) ∈ lw_all := lw_g (lw_at lw_m5 176 rfl) rfl
theorem q1276 : (Jvm.Cond.methodLink "VaneCourtLaw" (144 : Nat) ({ cls := "VaneCourt", name := "whose", desc := "()I" } : Jvm.MethodName)) ∈ lw_all := lw_g (lw_at lw_m5 180 rfl) rfl
theorem q1280 : (Jvm.Cond.methodLink "VaneCourtLaw" (148 : Nat) ({ cls := "VaneCourt", name := "learn", desc := "(IZ)I" } : Jvm.MethodName)) ∈ lw_all := lw_g (lw_at lw_m5 184 rfl) rfl
theorem q1284 : (Jvm.Cond.methodLink "VaneCourtLaw" (153 : Nat) ({ cls := "VaneCourt", name := "codes", desc := "(I)I" } : Jvm.MethodName)) ∈ lw_all := lw_g (lw_at lw_m5 188 rfl) rfl
theorem q1296 : (Jvm.Cond.methodLink "VaneCourtLaw" (157 : Nat) ({ cls := "VaneCourt", name := "sure", desc := "(I)I" } : Jvm.MethodName)) ∈ lw_all := lw_g (lw_at lw_m5 200 rfl) rfl
theorem q1305 : (Jvm.Cond.methodLink "VaneCourtLaw" (161 : Nat) ({ cls := "VaneCourt", name := "toBring", desc := "()I" } : Jvm.MethodName)) ∈ lw_all := lw_g (lw_at lw_m5 209 rfl) rfl
theorem q1312 : (Jvm.Cond.methodLink "VaneCourtLaw" (165 : Nat) ({ cls := "VaneCourt", name := "counsel", desc := "(II)I" } : Jvm.MethodName)) ∈ lw_all := lw_g (lw_at lw_m5 216 rfl) rfl
theorem q1316 : (Jvm.Cond.methodLink "VaneCourtLaw" (169 : Nat) ({ cls := "VaneCourt", name := "hired", desc := "(IZ)I" } : Jvm.MethodName)) ∈ lw_all := lw_g (lw_at lw_m5 220 rfl) rfl
theorem q1324 : (Jvm.Cond.methodLink "VaneCourtLaw" (173 : Nat) ({ cls := "VaneCourt", name := "calm", desc := "(I)I" } : Jvm.MethodName)) ∈ lw_all := lw_g (lw_at lw_m5 228 rfl) rfl
theorem q1328 : (Jvm.Cond.methodLink "VaneCourtLaw" (177 : Nat) ({ cls := "VaneCourt", name := "standing", desc := "(II)I" } : Jvm.MethodName)) ∈ lw_all := lw_g (lw_at lw_m5 232 rfl) rfl
theorem q1332 : (Jvm.Cond.methodLink "VaneCourtLaw" (181 : Nat) ({ cls := "VaneCourt", name := "image", desc := "()I" } : Jvm.MethodName)) ∈ lw_all := lw_g (lw_at lw_m5 236 rfl) rfl
theorem q1336 : (Jvm.Cond.methodLink "VaneCourtLaw" (185 : Nat) ({ cls := "VaneCourt", name := "back", desc := "()I" } : Jvm.MethodName)) ∈ lw_all := lw_g (lw_at lw_m6 0 rfl) rfl
theorem q1340 : (Jvm.Cond.methodLink "VaneCourtLaw" (189 : Nat) ({ cls := "VaneCourt", name := "about", desc := "(I)I" } : Jvm.MethodName)) ∈ lw_all := lw_g (lw_at lw_m6 4 rfl) rfl
theorem q1344 : (Jvm.Cond.classLink "VaneCourtLaw" (10 : Nat) "VaneCourtModel") ∈ lw_all := lw_g (lw_at lw_m6 8 rfl) rfl
theorem q1346 : (Jvm.Cond.methodLink "VaneCourtLaw" (12 : Nat) ({ cls := "VaneCourtModel", name := "<init>", desc := "()V" } : Jvm.MethodName)) ∈ lw_all := lw_g (lw_at lw_m6 10 rfl) rfl
theorem q1476 : (Jvm.Cond.methodLink "VaneCourtLaw" (17 : Nat) ({ cls := "VaneCourtModel", name := "newCase", desc := "(IIII)I" } : Jvm.MethodName)) ∈ lw_all := lw_g (lw_at lw_m6 140 rfl) rfl
theorem q1487 : (Jvm.Cond.methodLink "VaneCourtLaw" (22 : Nat) ({ cls := "VaneCourtModel", name := "feed", desc := "(IIIII)I" } : Jvm.MethodName)) ∈ lw_all := lw_g (lw_at lw_m6 151 rfl) rfl
theorem q1495 : (Jvm.Cond.methodLink "VaneCourtLaw" (27 : Nat) ({ cls := "VaneCourtModel", name := "end", desc := "(I)I" } : Jvm.MethodName)) ∈ lw_all := lw_g (lw_at lw_m6 159 rfl) rfl
theorem q1499 : (Jvm.Cond.methodLink "VaneCourtLaw" (32 : Nat) ({ cls := "VaneCourtModel", name := "text", desc := "()I" } : Jvm.MethodName)) ∈ lw_all := lw_g (lw_at lw_m6 163 rfl) rfl
theorem q1671 : (Jvm.Cond.methodLink "VaneCourtLaw" (36 : Nat) ({ cls := "VaneCourtModel", name := "fault", desc := "(I)I" } : Jvm.MethodName)) ∈ lw_all := lw_g (lw_at lw_m7 95 rfl) rfl
theorem q1675 : (Jvm.Cond.methodLink "VaneCourtLaw" (41 : Nat) ({ cls := "VaneCourtModel", name := "by", desc := "(I)Z" } : Jvm.MethodName)) ∈ lw_all := lw_g (lw_at lw_m7 99 rfl) rfl
theorem q1679 : (Jvm.Cond.methodLink "VaneCourtLaw" (79 : Nat) ({ cls := "VaneCourtModel", name := "undo", desc := "()I" } : Jvm.MethodName)) ∈ lw_all := lw_g (lw_at lw_m7 103 rfl) rfl
theorem q1683 : (Jvm.Cond.methodLink "VaneCourtLaw" (45 : Nat) ({ cls := "VaneCourtModel", name := "call", desc := "(I)Z" } : Jvm.MethodName)) ∈ lw_all := lw_g (lw_at lw_m7 107 rfl) rfl
theorem q1711 : (Jvm.Cond.methodLink "VaneCourtLaw" (49 : Nat) ({ cls := "VaneCourtModel", name := "delay", desc := "()I" } : Jvm.MethodName)) ∈ lw_all := lw_g (lw_at lw_m7 135 rfl) rfl
theorem q1719 : (Jvm.Cond.methodLink "VaneCourtLaw" (53 : Nat) ({ cls := "VaneCourtModel", name := "appeal", desc := "(I)Z" } : Jvm.MethodName)) ∈ lw_all := lw_g (lw_at lw_m7 143 rfl) rfl
theorem q1731 : (Jvm.Cond.methodLink "VaneCourtLaw" (58 : Nat) ({ cls := "VaneCourtModel", name := "gust", desc := "(II)Z" } : Jvm.MethodName)) ∈ lw_all := lw_g (lw_at lw_m7 155 rfl) rfl
theorem q1735 : (Jvm.Cond.methodLink "VaneCourtLaw" (62 : Nat) ({ cls := "VaneCourtModel", name := "withdraw", desc := "()I" } : Jvm.MethodName)) ∈ lw_all := lw_g (lw_at lw_m7 159 rfl) rfl
theorem q1743 : (Jvm.Cond.methodLink "VaneCourtLaw" (66 : Nat) ({ cls := "VaneCourtModel", name := "hour", desc := "(I)I" } : Jvm.MethodName)) ∈ lw_all := lw_g (lw_at lw_m7 167 rfl) rfl
theorem q1831 : (Jvm.Cond.methodLink "VaneCourtLaw" (70 : Nat) ({ cls := "VaneCourtModel", name := "played", desc := "(I)I" } : Jvm.MethodName)) ∈ lw_all := lw_g (lw_at lw_m8 15 rfl) rfl
theorem q1845 : (Jvm.Cond.methodLink "VaneCourtLaw" (75 : Nat) ({ cls := "VaneCourtModel", name := "decades", desc := "(II)I" } : Jvm.MethodName)) ∈ lw_all := lw_g (lw_at lw_m8 29 rfl) rfl
theorem q1853 : (Jvm.Cond.methodLink "VaneCourtLaw" (83 : Nat) ({ cls := "VaneCourtModel", name := "ofCase", desc := "(II)I" } : Jvm.MethodName)) ∈ lw_all := lw_g (lw_at lw_m8 37 rfl) rfl
theorem q1857 : (Jvm.Cond.methodLink "VaneCourtLaw" (87 : Nat) ({ cls := "VaneCourtModel", name := "is", desc := "(I)I" } : Jvm.MethodName)) ∈ lw_all := lw_g (lw_at lw_m8 41 rfl) rfl
theorem q1861 : (Jvm.Cond.methodLink "VaneCourtLaw" (91 : Nat) ({ cls := "VaneCourtModel", name := "book", desc := "(II)I" } : Jvm.MethodName)) ∈ lw_all := lw_g (lw_at lw_m8 45 rfl) rfl
theorem q1869 : (Jvm.Cond.methodLink "VaneCourtLaw" (95 : Nat) ({ cls := "VaneCourtModel", name := "foretold", desc := "(II)I" } : Jvm.MethodName)) ∈ lw_all := lw_g (lw_at lw_m8 53 rfl) rfl
theorem q1885 : (Jvm.Cond.methodLink "VaneCourtLaw" (99 : Nat) ({ cls := "VaneCourtModel", name := "ends", desc := "(IIII)I" } : Jvm.MethodName)) ∈ lw_all := lw_g (lw_at lw_m8 69 rfl) rfl
theorem q1893 : (Jvm.Cond.methodLink "VaneCourtLaw" (104 : Nat) ({ cls := "VaneCourtModel", name := "best", desc := "(IZI)I" } : Jvm.MethodName)) ∈ lw_all := lw_g (lw_at lw_m8 77 rfl) rfl
theorem q1897 : (Jvm.Cond.methodLink "VaneCourtLaw" (108 : Nat) ({ cls := "VaneCourtModel", name := "harshest", desc := "(I)I" } : Jvm.MethodName)) ∈ lw_all := lw_g (lw_at lw_m8 81 rfl) rfl
theorem q1901 : (Jvm.Cond.methodLink "VaneCourtLaw" (113 : Nat) ({ cls := "VaneCourtModel", name := "odds", desc := "(Z)J" } : Jvm.MethodName)) ∈ lw_all := lw_g (lw_at lw_m8 85 rfl) rfl
theorem q1913 : (Jvm.Cond.methodLink "VaneCourtLaw" (117 : Nat) ({ cls := "VaneCourtModel", name := "clash", desc := "(I)I" } : Jvm.MethodName)) ∈ lw_all := lw_g (lw_at lw_m8 97 rfl) rfl
theorem q1921 : (Jvm.Cond.methodLink "VaneCourtLaw" (121 : Nat) ({ cls := "VaneCourtModel", name := "leastFacts", desc := "(I)I" } : Jvm.MethodName)) ∈ lw_all := lw_g (lw_at lw_m8 105 rfl) rfl
theorem q1925 : (Jvm.Cond.methodLink "VaneCourtLaw" (126 : Nat) ({ cls := "VaneCourtModel", name := "game", desc := "(IZZ)I" } : Jvm.MethodName)) ∈ lw_all := lw_g (lw_at lw_m8 109 rfl) rfl
theorem q1930 : (Jvm.Cond.methodLink "VaneCourtLaw" (130 : Nat) ({ cls := "VaneCourtModel", name := "session", desc := "(II)I" } : Jvm.MethodName)) ∈ lw_all := lw_g (lw_at lw_m8 114 rfl) rfl
theorem q1942 : (Jvm.Cond.methodLink "VaneCourtLaw" (135 : Nat) ({ cls := "VaneCourtModel", name := "record", desc := "(IIZ)I" } : Jvm.MethodName)) ∈ lw_all := lw_g (lw_at lw_m8 126 rfl) rfl
theorem q1946 : (Jvm.Cond.methodLink "VaneCourtLaw" (139 : Nat) ({ cls := "VaneCourtModel", name := "turned", desc := "()I" } : Jvm.MethodName)) ∈ lw_all := lw_g (lw_at lw_m8 130 rfl) rfl
theorem q1954 : (Jvm.Cond.methodLink "VaneCourtLaw" (143 : Nat) ({ cls := "VaneCourtModel", name := "fewestWrong", desc := "()I" } : Jvm.MethodName)) ∈ lw_all := lw_g (lw_at lw_m8 138 rfl) rfl
theorem q1959 : (Jvm.Cond.methodLink "VaneCourtLaw" (147 : Nat) ({ cls := "VaneCourtModel", name := "whose", desc := "()I" } : Jvm.MethodName)) ∈ lw_all := lw_g (lw_at lw_m8 143 rfl) rfl
theorem q1963 : (Jvm.Cond.methodLink "VaneCourtLaw" (152 : Nat) ({ cls := "VaneCourtModel", name := "learn", desc := "(IZ)I" } : Jvm.MethodName)) ∈ lw_all := lw_g (lw_at lw_m8 147 rfl) rfl
theorem q1967 : (Jvm.Cond.methodLink "VaneCourtLaw" (156 : Nat) ({ cls := "VaneCourtModel", name := "codes", desc := "(I)I" } : Jvm.MethodName)) ∈ lw_all := lw_g (lw_at lw_m8 151 rfl) rfl
theorem q1983 : (Jvm.Cond.methodLink "VaneCourtLaw" (160 : Nat) ({ cls := "VaneCourtModel", name := "sure", desc := "(I)I" } : Jvm.MethodName)) ∈ lw_all := lw_g (lw_at lw_m8 167 rfl) rfl
theorem q1987 : (Jvm.Cond.methodLink "VaneCourtLaw" (164 : Nat) ({ cls := "VaneCourtModel", name := "toBring", desc := "()I" } : Jvm.MethodName)) ∈ lw_all := lw_g (lw_at lw_m8 171 rfl) rfl
theorem q1991 : (Jvm.Cond.methodLink "VaneCourtLaw" (168 : Nat) ({ cls := "VaneCourtModel", name := "counsel", desc := "(II)I" } : Jvm.MethodName)) ∈ lw_all := lw_g (lw_at lw_m8 175 rfl) rfl
theorem q1995 : (Jvm.Cond.methodLink "VaneCourtLaw" (172 : Nat) ({ cls := "VaneCourtModel", name := "hired", desc := "(IZ)I" } : Jvm.MethodName)) ∈ lw_all := lw_g (lw_at lw_m8 179 rfl) rfl
theorem q2003 : (Jvm.Cond.methodLink "VaneCourtLaw" (176 : Nat) ({ cls := "VaneCourtModel", name := "calm", desc := "(I)I" } : Jvm.MethodName)) ∈ lw_all := lw_g (lw_at lw_m8 187 rfl) rfl
theorem q2007 : (Jvm.Cond.methodLink "VaneCourtLaw" (180 : Nat) ({ cls := "VaneCourtModel", name := "standing", desc := "(II)I" } : Jvm.MethodName)) ∈ lw_all := lw_g (lw_at lw_m8 191 rfl) rfl
theorem q2011 : (Jvm.Cond.methodLink "VaneCourtLaw" (184 : Nat) ({ cls := "VaneCourtModel", name := "image", desc := "()I" } : Jvm.MethodName)) ∈ lw_all := lw_g (lw_at lw_m8 195 rfl) rfl
theorem q2015 : (Jvm.Cond.methodLink "VaneCourtLaw" (188 : Nat) ({ cls := "VaneCourtModel", name := "back", desc := "()I" } : Jvm.MethodName)) ∈ lw_all := lw_g (lw_at lw_m8 199 rfl) rfl
theorem q2019 : (Jvm.Cond.methodLink "VaneCourtLaw" (192 : Nat) ({ cls := "VaneCourtModel", name := "about", desc := "(I)I" } : Jvm.MethodName)) ∈ lw_all := lw_g (lw_at lw_m8 203 rfl) rfl
theorem q930 : (Jvm.Cond.interfaceMethod "VaneCourt$Asked" "VaneCourt$Asked" "is" "([I)Z") ∈ lw_tbl := lw_at lw_m4 74 rfl
set_option maxRecDepth 100000
theorem q931 : (Jvm.Cond.declares ({ cls := "VaneCourt$Asked", name := "is", desc := "([I)Z" } : Jvm.MethodName)) ∈ lw_tbl := lw_at lw_m4 75 rfl
theorem q2026 : (Jvm.Cond.castable "VaneCourt$Asked" "java/lang/Object") ∈ lw_tbl := lw_at lw_m8 210 rfl
theorem q951 : (Jvm.Cond.interfaceMethod "VaneCourt$Sum" "VaneCourt$Sum" "of" "([I)J") ∈ lw_tbl := lw_at lw_m4 95 rfl
set_option maxRecDepth 100000
theorem q952 : (Jvm.Cond.declares ({ cls := "VaneCourt$Sum", name := "of", desc := "([I)J" } : Jvm.MethodName)) ∈ lw_tbl := lw_at lw_m4 96 rfl
theorem q2053 : (Jvm.Cond.castable "[B" "java/lang/Object") ∈ lw_tbl := lw_at lw_m8 237 rfl
set_option maxRecDepth 100000
theorem q2052 : (Jvm.Cond.castable "[I" "java/lang/Object") ∈ lw_tbl := lw_at lw_m8 236 rfl
set_option maxRecDepth 100000
theorem q2056 : (Jvm.Cond.castable "[J" "java/lang/Object") ∈ lw_tbl := lw_at lw_m9 0 rfl
set_option maxRecDepth 100000
theorem q2054 : (Jvm.Cond.castable "[LVaneCourt$Asked;" "java/lang/Object") ∈ lw_tbl := lw_at lw_m8 238 rfl
set_option maxRecDepth 100000
theorem q2051 : (Jvm.Cond.castable "[LVaneCourt$Text;" "java/lang/Object") ∈ lw_tbl := lw_at lw_m8 235 rfl
set_option maxRecDepth 100000
theorem q2047 : (Jvm.Cond.sameMethod "[Ljava/lang/Object;" "java/lang/Object" "getClass" "()Ljava/lang/Class;") ∈ lw_all := lw_g (lw_at lw_m8 231 rfl) rfl
set_option maxRecDepth 100000
theorem q2048 : (Jvm.Cond.selects "[Ljava/lang/Object;" ({ cls := "java/lang/Object", name := "getClass", desc := "()Ljava/lang/Class;" } : Jvm.MethodName) ({ cls := "java/lang/Object", name := "getClass", desc := "()Ljava/lang/Class;" } : Jvm.MethodName)) ∈ lw_all := lw_g (lw_at lw_m8 232 rfl) rfl
theorem q2055 : (Jvm.Cond.castable "[Ljava/lang/Object;" "java/lang/Object") ∈ lw_tbl := lw_at lw_m8 239 rfl
theorem q2058 : (Jvm.Cond.castable "[Ljava/lang/String;" "java/lang/Object") ∈ lw_tbl := lw_at lw_m9 2 rfl
set_option maxRecDepth 100000
theorem q2057 : (Jvm.Cond.castable "[Z" "java/lang/Object") ∈ lw_tbl := lw_at lw_m9 1 rfl
set_option maxRecDepth 100000
theorem q2050 : (Jvm.Cond.castable "[[I" "java/lang/Object") ∈ lw_tbl := lw_at lw_m8 234 rfl
set_option maxRecDepth 100000
theorem q166 : (Jvm.Cond.initialized "java/lang/Integer$IntegerCache") ∈ lw_all := lw_g (lw_at lw_m1 30 rfl) rfl
set_option maxRecDepth 100000
theorem q765 : (Jvm.Cond.laysStatic "java/lang/Integer$IntegerCache" "high" "I") ∈ lw_tbl := lw_at lw_m3 149 rfl
theorem q767 : (Jvm.Cond.laysStatic "java/lang/Integer$IntegerCache" "cache" "[Ljava/lang/Integer;") ∈ lw_tbl := lw_at lw_m3 151 rfl
theorem q139 : (Jvm.Cond.initialized "java/lang/System") ∈ lw_all := lw_g (lw_at lw_m1 3 rfl) rfl
set_option maxRecDepth 100000
theorem q233 : (Jvm.Cond.static ({ cls := "java/lang/System", name := "arraycopy", desc := "(Ljava/lang/Object;ILjava/lang/Object;II)V" } : Jvm.MethodName)) ∈ lw_all := lw_g (lw_at lw_m1 97 rfl) rfl
theorem q234 : (Jvm.Cond.native ({ cls := "java/lang/System", name := "arraycopy", desc := "(Ljava/lang/Object;ILjava/lang/Object;II)V" } : Jvm.MethodName)) ∈ lw_all := lw_g (lw_at lw_m1 98 rfl) rfl
theorem q187 : (Jvm.Cond.arrayOver (Jvm.ClassFile.FieldType.array Jvm.ClassFile.FieldType.int)) ∈ lw_tbl := lw_at lw_m1 51 rfl
set_option maxRecDepth 100000
theorem q189 : (Jvm.Cond.arrayOver (Jvm.ClassFile.FieldType.object "VaneCourt$Text")) ∈ lw_tbl := lw_at lw_m1 53 rfl
theorem q223 : (Jvm.Cond.arrayClass Jvm.ClassFile.FieldType.int) ∈ lw_all := lw_g (lw_at lw_m1 87 rfl) rfl
theorem q278 : (Jvm.Cond.arrayClass Jvm.ClassFile.FieldType.byte) ∈ lw_all := lw_g (lw_at lw_m1 142 rfl) rfl
theorem q349 : (Jvm.Cond.arrayOver (Jvm.ClassFile.FieldType.object "VaneCourt$Asked")) ∈ lw_tbl := lw_at lw_m1 213 rfl
theorem q668 : (Jvm.Cond.arrayOver (Jvm.ClassFile.FieldType.object "java/lang/Object")) ∈ lw_tbl := lw_at lw_m3 52 rfl
theorem q1474 : (Jvm.Cond.arrayClass Jvm.ClassFile.FieldType.long) ∈ lw_all := lw_g (lw_at lw_m6 138 rfl) rfl
theorem q1475 : (Jvm.Cond.arrayClass Jvm.ClassFile.FieldType.boolean) ∈ lw_all := lw_g (lw_at lw_m6 139 rfl) rfl
theorem q2087 : (Jvm.Cond.arrayOver (Jvm.ClassFile.FieldType.object "java/lang/String")) ∈ lw_tbl := lw_at lw_m9 31 rfl
