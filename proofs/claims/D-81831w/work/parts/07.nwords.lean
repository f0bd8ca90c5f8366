theorem q48 : (Jvm.Cond.initialized "NutCachesLaw") ∈ lw_all := lw_g (lw_at lw_m1 0 rfl) rfl
set_option maxRecDepth 100000
theorem q96 : (Jvm.Cond.classLink "NutCachesLaw" (7 : Nat) "NutCaches") ∈ lw_all := lw_g (lw_at lw_m1 48 rfl) rfl
theorem q98 : (Jvm.Cond.methodLink "NutCachesLaw" (9 : Nat) ({ cls := "NutCaches", name := "<init>", desc := "()V" } : Jvm.MethodName)) ∈ lw_all := lw_g (lw_at lw_m1 50 rfl) rfl
theorem q215 : (Jvm.Cond.methodLink "NutCachesLaw" (13 : Nat) ({ cls := "NutCaches", name := "write", desc := "(I)I" } : Jvm.MethodName)) ∈ lw_all := lw_g (lw_at lw_m1 167 rfl) rfl
theorem q223 : (Jvm.Cond.methodLink "NutCachesLaw" (18 : Nat) ({ cls := "NutCaches", name := "erase", desc := "()I" } : Jvm.MethodName)) ∈ lw_all := lw_g (lw_at lw_m1 175 rfl) rfl
theorem q227 : (Jvm.Cond.methodLink "NutCachesLaw" (23 : Nat) ({ cls := "NutCaches", name := "fault", desc := "()I" } : Jvm.MethodName)) ∈ lw_all := lw_g (lw_at lw_m1 179 rfl) rfl
theorem q740 : (Jvm.Cond.methodLink "NutCachesLaw" (27 : Nat) ({ cls := "NutCaches", name := "hedge", desc := "()I" } : Jvm.MethodName)) ∈ lw_all := lw_g (lw_at lw_m3 212 rfl) rfl
theorem q809 : (Jvm.Cond.methodLink "NutCachesLaw" (31 : Nat) ({ cls := "NutCaches", name := "pit", desc := "(II)I" } : Jvm.MethodName)) ∈ lw_all := lw_g (lw_at lw_m4 41 rfl) rfl
theorem q824 : (Jvm.Cond.methodLink "NutCachesLaw" (36 : Nat) ({ cls := "NutCaches", name := "squirrel", desc := "(II)I" } : Jvm.MethodName)) ∈ lw_all := lw_g (lw_at lw_m4 56 rfl) rfl
theorem q884 : (Jvm.Cond.methodLink "NutCachesLaw" (40 : Nat) ({ cls := "NutCaches", name := "as", desc := "(II)I" } : Jvm.MethodName)) ∈ lw_all := lw_g (lw_at lw_m4 116 rfl) rfl
theorem q914 : (Jvm.Cond.methodLink "NutCachesLaw" (44 : Nat) ({ cls := "NutCaches", name := "day", desc := "(I)I" } : Jvm.MethodName)) ∈ lw_all := lw_g (lw_at lw_m4 146 rfl) rfl
theorem q999 : (Jvm.Cond.methodLink "NutCachesLaw" (48 : Nat) ({ cls := "NutCaches", name := "bury", desc := "(II)I" } : Jvm.MethodName)) ∈ lw_all := lw_g (lw_at lw_m4 231 rfl) rfl
theorem q1005 : (Jvm.Cond.methodLink "NutCachesLaw" (52 : Nat) ({ cls := "NutCaches", name := "raid", desc := "(II)I" } : Jvm.MethodName)) ∈ lw_all := lw_g (lw_at lw_m4 237 rfl) rfl
theorem q1009 : (Jvm.Cond.methodLink "NutCachesLaw" (56 : Nat) ({ cls := "NutCaches", name := "tell", desc := "(II)I" } : Jvm.MethodName)) ∈ lw_all := lw_g (lw_at lw_m5 1 rfl) rfl
theorem q1013 : (Jvm.Cond.methodLink "NutCachesLaw" (60 : Nat) ({ cls := "NutCaches", name := "undo", desc := "()I" } : Jvm.MethodName)) ∈ lw_all := lw_g (lw_at lw_m5 5 rfl) rfl
theorem q1017 : (Jvm.Cond.methodLink "NutCachesLaw" (64 : Nat) ({ cls := "NutCaches", name := "keep", desc := "(I)I" } : Jvm.MethodName)) ∈ lw_all := lw_g (lw_at lw_m5 9 rfl) rfl
theorem q1021 : (Jvm.Cond.methodLink "NutCachesLaw" (68 : Nat) ({ cls := "NutCaches", name := "back", desc := "(I)I" } : Jvm.MethodName)) ∈ lw_all := lw_g (lw_at lw_m5 13 rfl) rfl
theorem q1027 : (Jvm.Cond.methodLink "NutCachesLaw" (72 : Nat) ({ cls := "NutCaches", name := "behind", desc := "(III)I" } : Jvm.MethodName)) ∈ lw_all := lw_g (lw_at lw_m5 19 rfl) rfl
theorem q1032 : (Jvm.Cond.methodLink "NutCachesLaw" (77 : Nat) ({ cls := "NutCaches", name := "nuts", desc := "(II)I" } : Jvm.MethodName)) ∈ lw_all := lw_g (lw_at lw_m5 24 rfl) rfl
theorem q1036 : (Jvm.Cond.methodLink "NutCachesLaw" (81 : Nat) ({ cls := "NutCaches", name := "hungry", desc := "(I)I" } : Jvm.MethodName)) ∈ lw_all := lw_g (lw_at lw_m5 28 rfl) rfl
theorem q1041 : (Jvm.Cond.methodLink "NutCachesLaw" (85 : Nat) ({ cls := "NutCaches", name := "lasts", desc := "(I)I" } : Jvm.MethodName)) ∈ lw_all := lw_g (lw_at lw_m5 33 rfl) rfl
theorem q1045 : (Jvm.Cond.methodLink "NutCachesLaw" (89 : Nat) ({ cls := "NutCaches", name := "live", desc := "(I)I" } : Jvm.MethodName)) ∈ lw_all := lw_g (lw_at lw_m5 37 rfl) rfl
theorem q1059 : (Jvm.Cond.methodLink "NutCachesLaw" (93 : Nat) ({ cls := "NutCaches", name := "enough", desc := "(II)I" } : Jvm.MethodName)) ∈ lw_all := lw_g (lw_at lw_m5 51 rfl) rfl
theorem q1065 : (Jvm.Cond.methodLink "NutCachesLaw" (97 : Nat) ({ cls := "NutCaches", name := "worst", desc := "(II)I" } : Jvm.MethodName)) ∈ lw_all := lw_g (lw_at lw_m5 57 rfl) rfl
theorem q1070 : (Jvm.Cond.methodLink "NutCachesLaw" (101 : Nat) ({ cls := "NutCaches", name := "whisper", desc := "(I)I" } : Jvm.MethodName)) ∈ lw_all := lw_g (lw_at lw_m5 62 rfl) rfl
theorem q1075 : (Jvm.Cond.methodLink "NutCachesLaw" (105 : Nat) ({ cls := "NutCaches", name := "jay", desc := "(III)I" } : Jvm.MethodName)) ∈ lw_all := lw_g (lw_at lw_m5 67 rfl) rfl
theorem q1087 : (Jvm.Cond.methodLink "NutCachesLaw" (109 : Nat) ({ cls := "NutCaches", name := "seen", desc := "(IIII)I" } : Jvm.MethodName)) ∈ lw_all := lw_g (lw_at lw_m5 79 rfl) rfl
theorem q1094 : (Jvm.Cond.methodLink "NutCachesLaw" (114 : Nat) ({ cls := "NutCaches", name := "forget", desc := "()I" } : Jvm.MethodName)) ∈ lw_all := lw_g (lw_at lw_m5 86 rfl) rfl
theorem q1098 : (Jvm.Cond.methodLink "NutCachesLaw" (118 : Nat) ({ cls := "NutCaches", name := "kinds", desc := "()I" } : Jvm.MethodName)) ∈ lw_all := lw_g (lw_at lw_m5 90 rfl) rfl
theorem q1109 : (Jvm.Cond.methodLink "NutCachesLaw" (122 : Nat) ({ cls := "NutCaches", name := "ask", desc := "()I" } : Jvm.MethodName)) ∈ lw_all := lw_g (lw_at lw_m5 101 rfl) rfl
theorem q1113 : (Jvm.Cond.methodLink "NutCachesLaw" (126 : Nat) ({ cls := "NutCaches", name := "trail", desc := "(I)I" } : Jvm.MethodName)) ∈ lw_all := lw_g (lw_at lw_m5 105 rfl) rfl
theorem q1256 : (Jvm.Cond.methodLink "NutCachesLaw" (130 : Nat) ({ cls := "NutCaches", name := "step", desc := "(III)I" } : Jvm.MethodName)) ∈ lw_all := lw_g (lw_at lw_m6 8 rfl) rfl
theorem q1553 : (Jvm.Cond.methodLink "NutCachesLaw" (134 : Nat) ({ cls := "NutCaches", name := "add", desc := "(III)I" } : Jvm.MethodName)) ∈ lw_all := lw_g (lw_at lw_m7 65 rfl) rfl
theorem q1670 : (Jvm.Cond.methodLink "NutCachesLaw" (138 : Nat) ({ cls := "NutCaches", name := "set", desc := "(III)I" } : Jvm.MethodName)) ∈ lw_all := lw_g (lw_at lw_m7 182 rfl) rfl
theorem q1720 : (Jvm.Cond.methodLink "NutCachesLaw" (142 : Nat) ({ cls := "NutCaches", name := "cut", desc := "(I)I" } : Jvm.MethodName)) ∈ lw_all := lw_g (lw_at lw_m7 232 rfl) rfl
theorem q1763 : (Jvm.Cond.methodLink "NutCachesLaw" (146 : Nat) ({ cls := "NutCaches", name := "rewind", desc := "(I)I" } : Jvm.MethodName)) ∈ lw_all := lw_g (lw_at lw_m8 35 rfl) rfl
theorem q1771 : (Jvm.Cond.methodLink "NutCachesLaw" (150 : Nat) ({ cls := "NutCaches", name := "drop", desc := "(I)I" } : Jvm.MethodName)) ∈ lw_all := lw_g (lw_at lw_m8 43 rfl) rfl
theorem q1776 : (Jvm.Cond.methodLink "NutCachesLaw" (154 : Nat) ({ cls := "NutCaches", name := "count", desc := "(I)I" } : Jvm.MethodName)) ∈ lw_all := lw_g (lw_at lw_m8 48 rfl) rfl
theorem q1788 : (Jvm.Cond.classLink "NutCachesLaw" (10 : Nat) "NutCachesModel") ∈ lw_all := lw_g (lw_at lw_m8 60 rfl) rfl
theorem q1790 : (Jvm.Cond.methodLink "NutCachesLaw" (12 : Nat) ({ cls := "NutCachesModel", name := "<init>", desc := "()V" } : Jvm.MethodName)) ∈ lw_all := lw_g (lw_at lw_m8 62 rfl) rfl
theorem q1875 : (Jvm.Cond.methodLink "NutCachesLaw" (17 : Nat) ({ cls := "NutCachesModel", name := "write", desc := "(I)I" } : Jvm.MethodName)) ∈ lw_all := lw_g (lw_at lw_m8 147 rfl) rfl
theorem q1882 : (Jvm.Cond.methodLink "NutCachesLaw" (22 : Nat) ({ cls := "NutCachesModel", name := "erase", desc := "()I" } : Jvm.MethodName)) ∈ lw_all := lw_g (lw_at lw_m8 154 rfl) rfl
theorem q1886 : (Jvm.Cond.methodLink "NutCachesLaw" (26 : Nat) ({ cls := "NutCachesModel", name := "fault", desc := "()I" } : Jvm.MethodName)) ∈ lw_all := lw_g (lw_at lw_m8 158 rfl) rfl
theorem q1948 : (Jvm.Cond.methodLink "NutCachesLaw" (30 : Nat) ({ cls := "NutCachesModel", name := "hedge", desc := "()I" } : Jvm.MethodName)) ∈ lw_all := lw_g (lw_at lw_m8 220 rfl) rfl
theorem q1952 : (Jvm.Cond.methodLink "NutCachesLaw" (35 : Nat) ({ cls := "NutCachesModel", name := "pit", desc := "(II)I" } : Jvm.MethodName)) ∈ lw_all := lw_g (lw_at lw_m8 224 rfl) rfl
theorem q1967 : (Jvm.Cond.methodLink "NutCachesLaw" (39 : Nat) ({ cls := "NutCachesModel", name := "squirrel", desc := "(II)I" } : Jvm.MethodName)) ∈ lw_all := lw_g (lw_at lw_m8 239 rfl) rfl
theorem q1982 : (Jvm.Cond.methodLink "NutCachesLaw" (43 : Nat) ({ cls := "NutCachesModel", name := "as", desc := "(II)I" } : Jvm.MethodName)) ∈ lw_all := lw_g (lw_at lw_m9 14 rfl) rfl
theorem q1986 : (Jvm.Cond.methodLink "NutCachesLaw" (47 : Nat) ({ cls := "NutCachesModel", name := "day", desc := "(I)I" } : Jvm.MethodName)) ∈ lw_all := lw_g (lw_at lw_m9 18 rfl) rfl
theorem q2025 : (Jvm.Cond.methodLink "NutCachesLaw" (51 : Nat) ({ cls := "NutCachesModel", name := "bury", desc := "(II)I" } : Jvm.MethodName)) ∈ lw_all := lw_g (lw_at lw_m9 57 rfl) rfl
theorem q2029 : (Jvm.Cond.methodLink "NutCachesLaw" (55 : Nat) ({ cls := "NutCachesModel", name := "raid", desc := "(II)I" } : Jvm.MethodName)) ∈ lw_all := lw_g (lw_at lw_m9 61 rfl) rfl
theorem q2033 : (Jvm.Cond.methodLink "NutCachesLaw" (59 : Nat) ({ cls := "NutCachesModel", name := "tell", desc := "(II)I" } : Jvm.MethodName)) ∈ lw_all := lw_g (lw_at lw_m9 65 rfl) rfl
theorem q2037 : (Jvm.Cond.methodLink "NutCachesLaw" (63 : Nat) ({ cls := "NutCachesModel", name := "undo", desc := "()I" } : Jvm.MethodName)) ∈ lw_all := lw_g (lw_at lw_m9 69 rfl) rfl
theorem q2041 : (Jvm.Cond.methodLink "NutCachesLaw" (67 : Nat) ({ cls := "NutCachesModel", name := "keep", desc := "(I)I" } : Jvm.MethodName)) ∈ lw_all := lw_g (lw_at lw_m9 73 rfl) rfl
theorem q2045 : (Jvm.Cond.methodLink "NutCachesLaw" (71 : Nat) ({ cls := "NutCachesModel", name := "back", desc := "(I)I" } : Jvm.MethodName)) ∈ lw_all := lw_g (lw_at lw_m9 77 rfl) rfl
theorem q2049 : (Jvm.Cond.methodLink "NutCachesLaw" (76 : Nat) ({ cls := "NutCachesModel", name := "behind", desc := "(III)I" } : Jvm.MethodName)) ∈ lw_all := lw_g (lw_at lw_m9 81 rfl) rfl
theorem q2057 : (Jvm.Cond.methodLink "NutCachesLaw" (80 : Nat) ({ cls := "NutCachesModel", name := "nuts", desc := "(II)I" } : Jvm.MethodName)) ∈ lw_all := lw_g (lw_at lw_m9 89 rfl) rfl
theorem q2061 : (Jvm.Cond.methodLink "NutCachesLaw" (84 : Nat) ({ cls := "NutCachesModel", name := "hungry", desc := "(I)I" } : Jvm.MethodName)) ∈ lw_all := lw_g (lw_at lw_m9 93 rfl) rfl
theorem q2065 : (Jvm.Cond.methodLink "NutCachesLaw" (88 : Nat) ({ cls := "NutCachesModel", name := "lasts", desc := "(I)I" } : Jvm.MethodName)) ∈ lw_all := lw_g (lw_at lw_m9 97 rfl) rfl
theorem q2069 : (Jvm.Cond.methodLink "NutCachesLaw" (92 : Nat) ({ cls := "NutCachesModel", name := "live", desc := "(I)I" } : Jvm.MethodName)) ∈ lw_all := lw_g (lw_at lw_m9 101 rfl) rfl
theorem q2079 : (Jvm.Cond.methodLink "NutCachesLaw" (96 : Nat) ({ cls := "NutCachesModel", name := "enough", desc := "(II)I" } : Jvm.MethodName)) ∈ lw_all := lw_g (lw_at lw_m9 111 rfl) rfl
theorem q2086 : (Jvm.Cond.methodLink "NutCachesLaw" (100 : Nat) ({ cls := "NutCachesModel", name := "worst", desc := "(II)I" } : Jvm.MethodName)) ∈ lw_all := lw_g (lw_at lw_m9 118 rfl) rfl
theorem q2090 : (Jvm.Cond.methodLink "NutCachesLaw" (104 : Nat) ({ cls := "NutCachesModel", name := "whisper", desc := "(I)I" } : Jvm.MethodName)) ∈ lw_all := lw_g (lw_at lw_m9 122 rfl) rfl
theorem q2094 : (Jvm.Cond.methodLink "NutCachesLaw" (108 : Nat) ({ cls := "NutCachesModel", name := "jay", desc := "(III)I" } : Jvm.MethodName)) ∈ lw_all := lw_g (lw_at lw_m9 126 rfl) rfl
theorem q2098 : (Jvm.Cond.methodLink "NutCachesLaw" (113 : Nat) ({ cls := "NutCachesModel", name := "seen", desc := "(IIII)I" } : Jvm.MethodName)) ∈ lw_all := lw_g (lw_at lw_m9 130 rfl) rfl
theorem q2102 : (Jvm.Cond.methodLink "NutCachesLaw" (117 : Nat) ({ cls := "NutCachesModel", name := "forget", desc := "()I" } : Jvm.MethodName)) ∈ lw_all := lw_g (lw_at lw_m9 134 rfl) rfl
theorem q2106 : (Jvm.Cond.methodLink "NutCachesLaw" (121 : Nat) ({ cls := "NutCachesModel", name := "kinds", desc := "()I" } : Jvm.MethodName)) ∈ lw_all := lw_g (lw_at lw_m9 138 rfl) rfl
theorem q2113 : (Jvm.Cond.methodLink "NutCachesLaw" (125 : Nat) ({ cls := "NutCachesModel", name := "ask", desc := "()I" } : Jvm.MethodName)) ∈ lw_all := lw_g (lw_at lw_m9 145 rfl) rfl
theorem q2121 : (Jvm.Cond.methodLink "NutCachesLaw" (129 : Nat) ({ cls := "NutCachesModel", name := "trail", desc := "(I)I" } : Jvm.MethodName)) ∈ lw_all := lw_g (lw_at lw_m9 153 rfl) rfl
theorem q2128 : (Jvm.Cond.methodLink "NutCachesLaw" (133 : Nat) ({ cls := "NutCachesModel", name := "step", desc := "(III)I" } : Jvm.MethodName)) ∈ lw_all := lw_g (lw_at lw_m9 160 rfl) rfl
theorem q2133 : (Jvm.Cond.methodLink "NutCachesLaw" (137 : Nat) ({ cls := "NutCachesModel", name := "add", desc := "(III)I" } : Jvm.MethodName)) ∈ lw_all := lw_g (lw_at lw_m9 165 rfl) rfl
theorem q2144 : (Jvm.Cond.methodLink "NutCachesLaw" (141 : Nat) ({ cls := "NutCachesModel", name := "set", desc := "(III)I" } : Jvm.MethodName)) ∈ lw_all := lw_g (lw_at lw_m9 176 rfl) rfl
theorem q2148 : (Jvm.Cond.methodLink "NutCachesLaw" (145 : Nat) ({ cls := "NutCachesModel", name := "cut", desc := "(I)I" } : Jvm.MethodName)) ∈ lw_all := lw_g (lw_at lw_m9 180 rfl) rfl
theorem q2152 : (Jvm.Cond.methodLink "NutCachesLaw" (149 : Nat) ({ cls := "NutCachesModel", name := "rewind", desc := "(I)I" } : Jvm.MethodName)) ∈ lw_all := lw_g (lw_at lw_m9 184 rfl) rfl
theorem q2156 : (Jvm.Cond.methodLink "NutCachesLaw" (153 : Nat) ({ cls := "NutCachesModel", name := "drop", desc := "(I)I" } : Jvm.MethodName)) ∈ lw_all := lw_g (lw_at lw_m9 188 rfl) rfl
theorem q2160 : (Jvm.Cond.methodLink "NutCachesLaw" (157 : Nat) ({ cls := "NutCachesModel", name := "count", desc := "(I)I" } : Jvm.MethodName)) ∈ lw_all := lw_g (lw_at lw_m9 192 rfl) rfl
theorem q349 : (Jvm.Cond.sameMethod "[B" "java/lang/Object" "clone" "()Ljava/lang/Object;") ∈ lw_all := lw_g (lw_at lw_m2 61 rfl) rfl
set_option maxRecDepth 100000
theorem q352 : (Jvm.Cond.selects "[B" ({ cls := "[B", name := "clone", desc := "()Ljava/lang/Object;" } : Jvm.MethodName) ({ cls := "java/lang/Object", name := "clone", desc := "()Ljava/lang/Object;" } : Jvm.MethodName)) ∈ lw_all := lw_g (lw_at lw_m2 64 rfl) rfl
theorem q353 : (Jvm.Cond.castable "[B" "java/lang/Cloneable") ∈ lw_tbl := lw_at lw_m2 65 rfl
theorem q2234 : (Jvm.Cond.castable "[B" "java/lang/Object") ∈ lw_tbl := lw_at lw_m10 26 rfl
theorem q2239 : (Jvm.Cond.castable "[I" "java/lang/Object") ∈ lw_tbl := lw_at lw_m10 31 rfl
set_option maxRecDepth 100000
theorem q2236 : (Jvm.Cond.castable "[LNutCaches$State;" "java/lang/Object") ∈ lw_tbl := lw_at lw_m10 28 rfl
set_option maxRecDepth 100000
theorem q2238 : (Jvm.Cond.castable "[LNutCaches$Trail;" "java/lang/Object") ∈ lw_tbl := lw_at lw_m10 30 rfl
set_option maxRecDepth 100000
theorem q2230 : (Jvm.Cond.sameMethod "[Ljava/lang/Object;" "java/lang/Object" "getClass" "()Ljava/lang/Class;") ∈ lw_all := lw_g (lw_at lw_m10 22 rfl) rfl
set_option maxRecDepth 100000
theorem q2231 : (Jvm.Cond.selects "[Ljava/lang/Object;" ({ cls := "java/lang/Object", name := "getClass", desc := "()Ljava/lang/Class;" } : Jvm.MethodName) ({ cls := "java/lang/Object", name := "getClass", desc := "()Ljava/lang/Class;" } : Jvm.MethodName)) ∈ lw_all := lw_g (lw_at lw_m10 23 rfl) rfl
theorem q2233 : (Jvm.Cond.castable "[Ljava/lang/Object;" "java/lang/Object") ∈ lw_tbl := lw_at lw_m10 25 rfl
theorem q2241 : (Jvm.Cond.castable "[Ljava/lang/String;" "java/lang/Object") ∈ lw_tbl := lw_at lw_m10 33 rfl
set_option maxRecDepth 100000
theorem q2235 : (Jvm.Cond.castable "[S" "java/lang/Object") ∈ lw_tbl := lw_at lw_m10 27 rfl
set_option maxRecDepth 100000
theorem q2240 : (Jvm.Cond.castable "[Z" "java/lang/Object") ∈ lw_tbl := lw_at lw_m10 32 rfl
set_option maxRecDepth 100000
theorem q2237 : (Jvm.Cond.castable "[[I" "java/lang/Object") ∈ lw_tbl := lw_at lw_m10 29 rfl
set_option maxRecDepth 100000
theorem q93 : (Jvm.Cond.initialized "java/lang/Byte$ByteCache") ∈ lw_all := lw_g (lw_at lw_m1 45 rfl) rfl
set_option maxRecDepth 100000
theorem q1590 : (Jvm.Cond.laysStatic "java/lang/Byte$ByteCache" "cache" "[Ljava/lang/Byte;") ∈ lw_tbl := lw_at lw_m7 102 rfl
theorem q91 : (Jvm.Cond.initialized "java/lang/Integer$IntegerCache") ∈ lw_all := lw_g (lw_at lw_m1 43 rfl) rfl
set_option maxRecDepth 100000
theorem q1571 : (Jvm.Cond.laysStatic "java/lang/Integer$IntegerCache" "high" "I") ∈ lw_tbl := lw_at lw_m7 83 rfl
theorem q1573 : (Jvm.Cond.laysStatic "java/lang/Integer$IntegerCache" "cache" "[Ljava/lang/Integer;") ∈ lw_tbl := lw_at lw_m7 85 rfl
theorem q51 : (Jvm.Cond.initialized "java/lang/System") ∈ lw_all := lw_g (lw_at lw_m1 3 rfl) rfl
set_option maxRecDepth 100000
theorem q165 : (Jvm.Cond.static ({ cls := "java/lang/System", name := "arraycopy", desc := "(Ljava/lang/Object;ILjava/lang/Object;II)V" } : Jvm.MethodName)) ∈ lw_all := lw_g (lw_at lw_m1 117 rfl) rfl
theorem q166 : (Jvm.Cond.native ({ cls := "java/lang/System", name := "arraycopy", desc := "(Ljava/lang/Object;ILjava/lang/Object;II)V" } : Jvm.MethodName)) ∈ lw_all := lw_g (lw_at lw_m1 118 rfl) rfl
theorem q593 : (Jvm.Cond.interfaceMethod "java/util/List" "java/util/List" "indexOf" "(Ljava/lang/Object;)I") ∈ lw_tbl := lw_at lw_m3 65 rfl
set_option maxRecDepth 100000
theorem q594 : (Jvm.Cond.declares ({ cls := "java/util/List", name := "indexOf", desc := "(Ljava/lang/Object;)I" } : Jvm.MethodName)) ∈ lw_tbl := lw_at lw_m3 66 rfl
theorem q1147 : (Jvm.Cond.interfaceMethod "java/util/List" "java/util/List" "listIterator" "()Ljava/util/ListIterator;") ∈ lw_tbl := lw_at lw_m5 139 rfl
theorem q1148 : (Jvm.Cond.declares ({ cls := "java/util/List", name := "listIterator", desc := "()Ljava/util/ListIterator;" } : Jvm.MethodName)) ∈ lw_tbl := lw_at lw_m5 140 rfl
theorem q1341 : (Jvm.Cond.interfaceMethod "java/util/List" "java/util/List" "get" "(I)Ljava/lang/Object;") ∈ lw_tbl := lw_at lw_m6 93 rfl
theorem q1342 : (Jvm.Cond.declares ({ cls := "java/util/List", name := "get", desc := "(I)Ljava/lang/Object;" } : Jvm.MethodName)) ∈ lw_tbl := lw_at lw_m6 94 rfl
theorem q1601 : (Jvm.Cond.interfaceMethod "java/util/List" "java/util/List" "size" "()I") ∈ lw_tbl := lw_at lw_m7 113 rfl
theorem q1602 : (Jvm.Cond.declares ({ cls := "java/util/List", name := "size", desc := "()I" } : Jvm.MethodName)) ∈ lw_tbl := lw_at lw_m7 114 rfl
theorem q1267 : (Jvm.Cond.interfaceMethod "java/util/ListIterator" "java/util/ListIterator" "hasNext" "()Z") ∈ lw_tbl := lw_at lw_m6 19 rfl
set_option maxRecDepth 100000
theorem q1268 : (Jvm.Cond.declares ({ cls := "java/util/ListIterator", name := "hasNext", desc := "()Z" } : Jvm.MethodName)) ∈ lw_tbl := lw_at lw_m6 20 rfl
theorem q1284 : (Jvm.Cond.interfaceMethod "java/util/ListIterator" "java/util/ListIterator" "hasPrevious" "()Z") ∈ lw_tbl := lw_at lw_m6 36 rfl
theorem q1285 : (Jvm.Cond.declares ({ cls := "java/util/ListIterator", name := "hasPrevious", desc := "()Z" } : Jvm.MethodName)) ∈ lw_tbl := lw_at lw_m6 37 rfl
theorem q1313 : (Jvm.Cond.interfaceMethod "java/util/ListIterator" "java/util/ListIterator" "nextIndex" "()I") ∈ lw_tbl := lw_at lw_m6 65 rfl
theorem q1314 : (Jvm.Cond.declares ({ cls := "java/util/ListIterator", name := "nextIndex", desc := "()I" } : Jvm.MethodName)) ∈ lw_tbl := lw_at lw_m6 66 rfl
theorem q1327 : (Jvm.Cond.interfaceMethod "java/util/ListIterator" "java/util/ListIterator" "previousIndex" "()I") ∈ lw_tbl := lw_at lw_m6 79 rfl
theorem q1328 : (Jvm.Cond.declares ({ cls := "java/util/ListIterator", name := "previousIndex", desc := "()I" } : Jvm.MethodName)) ∈ lw_tbl := lw_at lw_m6 80 rfl
theorem q1378 : (Jvm.Cond.interfaceMethod "java/util/ListIterator" "java/util/ListIterator" "previous" "()Ljava/lang/Object;") ∈ lw_tbl := lw_at lw_m6 130 rfl
theorem q1379 : (Jvm.Cond.declares ({ cls := "java/util/ListIterator", name := "previous", desc := "()Ljava/lang/Object;" } : Jvm.MethodName)) ∈ lw_tbl := lw_at lw_m6 131 rfl
theorem q1530 : (Jvm.Cond.interfaceMethod "java/util/ListIterator" "java/util/ListIterator" "next" "()Ljava/lang/Object;") ∈ lw_tbl := lw_at lw_m7 42 rfl
theorem q1531 : (Jvm.Cond.declares ({ cls := "java/util/ListIterator", name := "next", desc := "()Ljava/lang/Object;" } : Jvm.MethodName)) ∈ lw_tbl := lw_at lw_m7 43 rfl
theorem q1611 : (Jvm.Cond.interfaceMethod "java/util/ListIterator" "java/util/ListIterator" "add" "(Ljava/lang/Object;)V") ∈ lw_tbl := lw_at lw_m7 123 rfl
theorem q1612 : (Jvm.Cond.declares ({ cls := "java/util/ListIterator", name := "add", desc := "(Ljava/lang/Object;)V" } : Jvm.MethodName)) ∈ lw_tbl := lw_at lw_m7 124 rfl
theorem q1680 : (Jvm.Cond.interfaceMethod "java/util/ListIterator" "java/util/ListIterator" "set" "(Ljava/lang/Object;)V") ∈ lw_tbl := lw_at lw_m7 192 rfl
theorem q1681 : (Jvm.Cond.declares ({ cls := "java/util/ListIterator", name := "set", desc := "(Ljava/lang/Object;)V" } : Jvm.MethodName)) ∈ lw_tbl := lw_at lw_m7 193 rfl
theorem q1730 : (Jvm.Cond.interfaceMethod "java/util/ListIterator" "java/util/ListIterator" "remove" "()V") ∈ lw_tbl := lw_at lw_m8 2 rfl
theorem q1731 : (Jvm.Cond.declares ({ cls := "java/util/ListIterator", name := "remove", desc := "()V" } : Jvm.MethodName)) ∈ lw_tbl := lw_at lw_m8 3 rfl
theorem q105 : (Jvm.Cond.arrayOver (Jvm.ClassFile.FieldType.object "java/lang/Object")) ∈ lw_tbl := lw_at lw_m1 57 rfl
set_option maxRecDepth 100000
theorem q149 : (Jvm.Cond.arrayClass Jvm.ClassFile.FieldType.byte) ∈ lw_all := lw_g (lw_at lw_m1 101 rfl) rfl
theorem q150 : (Jvm.Cond.arrayClass Jvm.ClassFile.FieldType.short) ∈ lw_all := lw_g (lw_at lw_m1 102 rfl) rfl
theorem q151 : (Jvm.Cond.arrayOver (Jvm.ClassFile.FieldType.object "NutCaches$State")) ∈ lw_tbl := lw_at lw_m1 103 rfl
theorem q153 : (Jvm.Cond.arrayOver (Jvm.ClassFile.FieldType.array Jvm.ClassFile.FieldType.int)) ∈ lw_tbl := lw_at lw_m1 105 rfl
theorem q155 : (Jvm.Cond.arrayOver (Jvm.ClassFile.FieldType.object "NutCaches$Trail")) ∈ lw_tbl := lw_at lw_m1 107 rfl
theorem q739 : (Jvm.Cond.arrayClass Jvm.ClassFile.FieldType.int) ∈ lw_all := lw_g (lw_at lw_m3 211 rfl) rfl
theorem q1874 : (Jvm.Cond.arrayClass Jvm.ClassFile.FieldType.boolean) ∈ lw_all := lw_g (lw_at lw_m8 146 rfl) rfl
theorem q2251 : (Jvm.Cond.arrayOver (Jvm.ClassFile.FieldType.object "java/lang/String")) ∈ lw_tbl := lw_at lw_m10 43 rfl
