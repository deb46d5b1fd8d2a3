theorem q119 : (Jvm.Cond.initialized "RaisedPressLaw") ∈ lw_all := lw_g (lw_at lw_m1 0 rfl) rfl
set_option maxRecDepth 100000
theorem q150 : (Jvm.Cond.classLink "RaisedPressLaw" (7 : Nat) "RaisedPress") ∈ lw_all := lw_g (lw_at lw_m1 31 rfl) rfl
theorem q152 : (Jvm.Cond.methodLink "RaisedPressLaw" (9 : Nat) ({ cls := "RaisedPress", name := "<init>", desc := "()V" } : Jvm.MethodName)) ∈ lw_all := lw_g (lw_at lw_m1 33 rfl) rfl
theorem q494 : (Jvm.Cond.methodLink "RaisedPressLaw" (13 : Nat) ({ cls := "RaisedPress", name := "status", desc := "()I" } : Jvm.MethodName)) ∈ lw_all := lw_g (lw_at lw_m2 135 rfl) rfl
theorem q498 : (Jvm.Cond.methodLink "RaisedPressLaw" (18 : Nat) ({ cls := "RaisedPress", name := "top", desc := "()J" } : Jvm.MethodName)) ∈ lw_all := lw_g (lw_at lw_m2 139 rfl) rfl
theorem q502 : (Jvm.Cond.methodLink "RaisedPressLaw" (23 : Nat) ({ cls := "RaisedPress", name := "bottom", desc := "()J" } : Jvm.MethodName)) ∈ lw_all := lw_g (lw_at lw_m2 143 rfl) rfl
theorem q506 : (Jvm.Cond.methodLink "RaisedPressLaw" (27 : Nat) ({ cls := "RaisedPress", name := "tray", desc := "(III)Z" } : Jvm.MethodName)) ∈ lw_all := lw_g (lw_at lw_m2 147 rfl) rfl
theorem q556 : (Jvm.Cond.methodLink "RaisedPressLaw" (34 : Nat) ({ cls := "RaisedPress", name := "write", desc := "(IIJ)Z" } : Jvm.MethodName)) ∈ lw_all := lw_g (lw_at lw_m2 197 rfl) rfl
theorem q590 : (Jvm.Cond.methodLink "RaisedPressLaw" (39 : Nat) ({ cls := "RaisedPress", name := "read", desc := "(II)J" } : Jvm.MethodName)) ∈ lw_all := lw_g (lw_at lw_m2 231 rfl) rfl
theorem q602 : (Jvm.Cond.methodLink "RaisedPressLaw" (44 : Nat) ({ cls := "RaisedPress", name := "pour", desc := "(IIIII)Z" } : Jvm.MethodName)) ∈ lw_all := lw_g (lw_at lw_m3 3 rfl) rfl
theorem q613 : (Jvm.Cond.methodLink "RaisedPressLaw" (49 : Nat) ({ cls := "RaisedPress", name := "feed", desc := "(IIIII)I" } : Jvm.MethodName)) ∈ lw_all := lw_g (lw_at lw_m3 14 rfl) rfl
theorem q621 : (Jvm.Cond.methodLink "RaisedPressLaw" (54 : Nat) ({ cls := "RaisedPress", name := "press", desc := "(I)I" } : Jvm.MethodName)) ∈ lw_all := lw_g (lw_at lw_m3 22 rfl) rfl
theorem q871 : (Jvm.Cond.methodLink "RaisedPressLaw" (59 : Nat) ({ cls := "RaisedPress", name := "writing", desc := "(I)I" } : Jvm.MethodName)) ∈ lw_all := lw_g (lw_at lw_m4 32 rfl) rfl
theorem q1065 : (Jvm.Cond.methodLink "RaisedPressLaw" (63 : Nat) ({ cls := "RaisedPress", name := "fault", desc := "(I)I" } : Jvm.MethodName)) ∈ lw_all := lw_g (lw_at lw_m4 226 rfl) rfl
theorem q1069 : (Jvm.Cond.methodLink "RaisedPressLaw" (67 : Nat) ({ cls := "RaisedPress", name := "told", desc := "(I)I" } : Jvm.MethodName)) ∈ lw_all := lw_g (lw_at lw_m4 230 rfl) rfl
theorem q1081 : (Jvm.Cond.methodLink "RaisedPressLaw" (71 : Nat) ({ cls := "RaisedPress", name := "rule", desc := "(II)I" } : Jvm.MethodName)) ∈ lw_all := lw_g (lw_at lw_m5 2 rfl) rfl
theorem q1095 : (Jvm.Cond.methodLink "RaisedPressLaw" (76 : Nat) ({ cls := "RaisedPress", name := "letter", desc := "(II)I" } : Jvm.MethodName)) ∈ lw_all := lw_g (lw_at lw_m5 16 rfl) rfl
theorem q1099 : (Jvm.Cond.methodLink "RaisedPressLaw" (80 : Nat) ({ cls := "RaisedPress", name := "cellOf", desc := "(II)I" } : Jvm.MethodName)) ∈ lw_all := lw_g (lw_at lw_m5 20 rfl) rfl
theorem q1103 : (Jvm.Cond.methodLink "RaisedPressLaw" (84 : Nat) ({ cls := "RaisedPress", name := "drop", desc := "(IZ)Z" } : Jvm.MethodName)) ∈ lw_all := lw_g (lw_at lw_m5 24 rfl) rfl
theorem q1107 : (Jvm.Cond.methodLink "RaisedPressLaw" (89 : Nat) ({ cls := "RaisedPress", name := "reset", desc := "()I" } : Jvm.MethodName)) ∈ lw_all := lw_g (lw_at lw_m5 28 rfl) rfl
theorem q1123 : (Jvm.Cond.methodLink "RaisedPressLaw" (93 : Nat) ({ cls := "RaisedPress", name := "size", desc := "(I)I" } : Jvm.MethodName)) ∈ lw_all := lw_g (lw_at lw_m5 44 rfl) rfl
theorem q1136 : (Jvm.Cond.methodLink "RaisedPressLaw" (97 : Nat) ({ cls := "RaisedPress", name := "cell", desc := "(I)I" } : Jvm.MethodName)) ∈ lw_all := lw_g (lw_at lw_m5 57 rfl) rfl
theorem q1140 : (Jvm.Cond.methodLink "RaisedPressLaw" (101 : Nat) ({ cls := "RaisedPress", name := "line", desc := "(I)I" } : Jvm.MethodName)) ∈ lw_all := lw_g (lw_at lw_m5 61 rfl) rfl
theorem q1152 : (Jvm.Cond.methodLink "RaisedPressLaw" (105 : Nat) ({ cls := "RaisedPress", name := "lineAt", desc := "(II)I" } : Jvm.MethodName)) ∈ lw_all := lw_g (lw_at lw_m5 73 rfl) rfl
theorem q1156 : (Jvm.Cond.methodLink "RaisedPressLaw" (109 : Nat) ({ cls := "RaisedPress", name := "onPage", desc := "(III)I" } : Jvm.MethodName)) ∈ lw_all := lw_g (lw_at lw_m5 77 rfl) rfl
theorem q1161 : (Jvm.Cond.methodLink "RaisedPressLaw" (114 : Nat) ({ cls := "RaisedPress", name := "hyphens", desc := "()I" } : Jvm.MethodName)) ∈ lw_all := lw_g (lw_at lw_m5 82 rfl) rfl
theorem q1165 : (Jvm.Cond.methodLink "RaisedPressLaw" (118 : Nat) ({ cls := "RaisedPress", name := "used", desc := "(I)I" } : Jvm.MethodName)) ∈ lw_all := lw_g (lw_at lw_m5 86 rfl) rfl
theorem q1169 : (Jvm.Cond.methodLink "RaisedPressLaw" (122 : Nat) ({ cls := "RaisedPress", name := "useless", desc := "()I" } : Jvm.MethodName)) ∈ lw_all := lw_g (lw_at lw_m5 90 rfl) rfl
theorem q1177 : (Jvm.Cond.methodLink "RaisedPressLaw" (126 : Nat) ({ cls := "RaisedPress", name := "dots", desc := "()I" } : Jvm.MethodName)) ∈ lw_all := lw_g (lw_at lw_m5 98 rfl) rfl
theorem q1187 : (Jvm.Cond.methodLink "RaisedPressLaw" (130 : Nat) ({ cls := "RaisedPress", name := "plain", desc := "()I" } : Jvm.MethodName)) ∈ lw_all := lw_g (lw_at lw_m5 108 rfl) rfl
theorem q1195 : (Jvm.Cond.methodLink "RaisedPressLaw" (134 : Nat) ({ cls := "RaisedPress", name := "fewest", desc := "()I" } : Jvm.MethodName)) ∈ lw_all := lw_g (lw_at lw_m5 116 rfl) rfl
theorem q1211 : (Jvm.Cond.methodLink "RaisedPressLaw" (138 : Nat) ({ cls := "RaisedPress", name := "saving", desc := "(I)I" } : Jvm.MethodName)) ∈ lw_all := lw_g (lw_at lw_m5 132 rfl) rfl
theorem q1215 : (Jvm.Cond.methodLink "RaisedPressLaw" (142 : Nat) ({ cls := "RaisedPress", name := "cheapest", desc := "()I" } : Jvm.MethodName)) ∈ lw_all := lw_g (lw_at lw_m5 136 rfl) rfl
theorem q1219 : (Jvm.Cond.methodLink "RaisedPressLaw" (146 : Nat) ({ cls := "RaisedPress", name := "piece", desc := "(II)I" } : Jvm.MethodName)) ∈ lw_all := lw_g (lw_at lw_m5 140 rfl) rfl
theorem q1223 : (Jvm.Cond.methodLink "RaisedPressLaw" (150 : Nat) ({ cls := "RaisedPress", name := "by", desc := "(I)I" } : Jvm.MethodName)) ∈ lw_all := lw_g (lw_at lw_m5 144 rfl) rfl
theorem q1227 : (Jvm.Cond.methodLink "RaisedPressLaw" (154 : Nat) ({ cls := "RaisedPress", name := "dense", desc := "(I)I" } : Jvm.MethodName)) ∈ lw_all := lw_g (lw_at lw_m5 148 rfl) rfl
theorem q1235 : (Jvm.Cond.methodLink "RaisedPressLaw" (158 : Nat) ({ cls := "RaisedPress", name := "alike", desc := "(II)I" } : Jvm.MethodName)) ∈ lw_all := lw_g (lw_at lw_m5 156 rfl) rfl
theorem q1240 : (Jvm.Cond.methodLink "RaisedPressLaw" (162 : Nat) ({ cls := "RaisedPress", name := "longest", desc := "()I" } : Jvm.MethodName)) ∈ lw_all := lw_g (lw_at lw_m5 161 rfl) rfl
theorem q1244 : (Jvm.Cond.methodLink "RaisedPressLaw" (166 : Nat) ({ cls := "RaisedPress", name := "inLine", desc := "(I)I" } : Jvm.MethodName)) ∈ lw_all := lw_g (lw_at lw_m5 165 rfl) rfl
theorem q1248 : (Jvm.Cond.methodLink "RaisedPressLaw" (170 : Nat) ({ cls := "RaisedPress", name := "wasted", desc := "(I)I" } : Jvm.MethodName)) ∈ lw_all := lw_g (lw_at lw_m5 169 rfl) rfl
theorem q1252 : (Jvm.Cond.methodLink "RaisedPressLaw" (174 : Nat) ({ cls := "RaisedPress", name := "saved", desc := "()I" } : Jvm.MethodName)) ∈ lw_all := lw_g (lw_at lw_m5 173 rfl) rfl
theorem q1257 : (Jvm.Cond.methodLink "RaisedPressLaw" (178 : Nat) ({ cls := "RaisedPress", name := "frequent", desc := "()I" } : Jvm.MethodName)) ∈ lw_all := lw_g (lw_at lw_m5 178 rfl) rfl
theorem q1262 : (Jvm.Cond.methodLink "RaisedPressLaw" (182 : Nat) ({ cls := "RaisedPress", name := "pieceOf", desc := "(I)I" } : Jvm.MethodName)) ∈ lw_all := lw_g (lw_at lw_m5 183 rfl) rfl
theorem q1266 : (Jvm.Cond.methodLink "RaisedPressLaw" (186 : Nat) ({ cls := "RaisedPress", name := "signs", desc := "(I)I" } : Jvm.MethodName)) ∈ lw_all := lw_g (lw_at lw_m5 187 rfl) rfl
theorem q1271 : (Jvm.Cond.methodLink "RaisedPressLaw" (190 : Nat) ({ cls := "RaisedPress", name := "covers", desc := "(I)I" } : Jvm.MethodName)) ∈ lw_all := lw_g (lw_at lw_m5 192 rfl) rfl
theorem q1279 : (Jvm.Cond.methodLink "RaisedPressLaw" (194 : Nat) ({ cls := "RaisedPress", name := "often", desc := "(I)I" } : Jvm.MethodName)) ∈ lw_all := lw_g (lw_at lw_m5 200 rfl) rfl
theorem q1288 : (Jvm.Cond.methodLink "RaisedPressLaw" (198 : Nat) ({ cls := "RaisedPress", name := "commonest", desc := "()I" } : Jvm.MethodName)) ∈ lw_all := lw_g (lw_at lw_m5 209 rfl) rfl
theorem q1292 : (Jvm.Cond.methodLink "RaisedPressLaw" (202 : Nat) ({ cls := "RaisedPress", name := "ragged", desc := "()I" } : Jvm.MethodName)) ∈ lw_all := lw_g (lw_at lw_m5 213 rfl) rfl
theorem q1300 : (Jvm.Cond.methodLink "RaisedPressLaw" (206 : Nat) ({ cls := "RaisedPress", name := "leastRagged", desc := "()I" } : Jvm.MethodName)) ∈ lw_all := lw_g (lw_at lw_m5 221 rfl) rfl
theorem q1309 : (Jvm.Cond.methodLink "RaisedPressLaw" (210 : Nat) ({ cls := "RaisedPress", name := "ways", desc := "(II)I" } : Jvm.MethodName)) ∈ lw_all := lw_g (lw_at lw_m5 230 rfl) rfl
theorem q1336 : (Jvm.Cond.methodLink "RaisedPressLaw" (214 : Nat) ({ cls := "RaisedPress", name := "first", desc := "(II)I" } : Jvm.MethodName)) ∈ lw_all := lw_g (lw_at lw_m6 17 rfl) rfl
theorem q1340 : (Jvm.Cond.methodLink "RaisedPressLaw" (218 : Nat) ({ cls := "RaisedPress", name := "firstAt", desc := "(I)I" } : Jvm.MethodName)) ∈ lw_all := lw_g (lw_at lw_m6 21 rfl) rfl
theorem q1344 : (Jvm.Cond.methodLink "RaisedPressLaw" (222 : Nat) ({ cls := "RaisedPress", name := "letters", desc := "()I" } : Jvm.MethodName)) ∈ lw_all := lw_g (lw_at lw_m6 25 rfl) rfl
theorem q1348 : (Jvm.Cond.methodLink "RaisedPressLaw" (226 : Nat) ({ cls := "RaisedPress", name := "truths", desc := "(II)I" } : Jvm.MethodName)) ∈ lw_all := lw_g (lw_at lw_m6 29 rfl) rfl
theorem q1360 : (Jvm.Cond.methodLink "RaisedPressLaw" (230 : Nat) ({ cls := "RaisedPress", name := "failed", desc := "(III)I" } : Jvm.MethodName)) ∈ lw_all := lw_g (lw_at lw_m6 41 rfl) rfl
theorem q1364 : (Jvm.Cond.methodLink "RaisedPressLaw" (234 : Nat) ({ cls := "RaisedPress", name := "mirror", desc := "(I)I" } : Jvm.MethodName)) ∈ lw_all := lw_g (lw_at lw_m6 45 rfl) rfl
theorem q1371 : (Jvm.Cond.methodLink "RaisedPressLaw" (238 : Nat) ({ cls := "RaisedPress", name := "turned", desc := "(I)I" } : Jvm.MethodName)) ∈ lw_all := lw_g (lw_at lw_m6 52 rfl) rfl
theorem q1379 : (Jvm.Cond.methodLink "RaisedPressLaw" (246 : Nat) ({ cls := "RaisedPress", name := "near", desc := "(II)I" } : Jvm.MethodName)) ∈ lw_all := lw_g (lw_at lw_m6 60 rfl) rfl
theorem q1383 : (Jvm.Cond.methodLink "RaisedPressLaw" (250 : Nat) ({ cls := "RaisedPress", name := "clash", desc := "(II)I" } : Jvm.MethodName)) ∈ lw_all := lw_g (lw_at lw_m6 64 rfl) rfl
theorem q1396 : (Jvm.Cond.methodLink "RaisedPressLaw" (254 : Nat) ({ cls := "RaisedPress", name := "clashes", desc := "()I" } : Jvm.MethodName)) ∈ lw_all := lw_g (lw_at lw_m6 77 rfl) rfl
theorem q1400 : (Jvm.Cond.methodLink "RaisedPressLaw" (258 : Nat) ({ cls := "RaisedPress", name := "clear", desc := "()I" } : Jvm.MethodName)) ∈ lw_all := lw_g (lw_at lw_m6 81 rfl) rfl
theorem q1420 : (Jvm.Cond.methodLink "RaisedPressLaw" (262 : Nat) ({ cls := "RaisedPress", name := "twin", desc := "()I" } : Jvm.MethodName)) ∈ lw_all := lw_g (lw_at lw_m6 101 rfl) rfl
theorem q1424 : (Jvm.Cond.methodLink "RaisedPressLaw" (242 : Nat) ({ cls := "RaisedPress", name := "twins", desc := "()I" } : Jvm.MethodName)) ∈ lw_all := lw_g (lw_at lw_m6 105 rfl) rfl
theorem q1428 : (Jvm.Cond.methodLink "RaisedPressLaw" (266 : Nat) ({ cls := "RaisedPress", name := "lacks", desc := "()I" } : Jvm.MethodName)) ∈ lw_all := lw_g (lw_at lw_m6 109 rfl) rfl
theorem q1433 : (Jvm.Cond.methodLink "RaisedPressLaw" (270 : Nat) ({ cls := "RaisedPress", name := "worn", desc := "(II)I" } : Jvm.MethodName)) ∈ lw_all := lw_g (lw_at lw_m6 114 rfl) rfl
theorem q1444 : (Jvm.Cond.methodLink "RaisedPressLaw" (274 : Nat) ({ cls := "RaisedPress", name := "wornAt", desc := "(I)I" } : Jvm.MethodName)) ∈ lw_all := lw_g (lw_at lw_m6 125 rfl) rfl
theorem q1448 : (Jvm.Cond.methodLink "RaisedPressLaw" (278 : Nat) ({ cls := "RaisedPress", name := "odds", desc := "(III)Z" } : Jvm.MethodName)) ∈ lw_all := lw_g (lw_at lw_m6 129 rfl) rfl
theorem q1462 : (Jvm.Cond.methodLink "RaisedPressLaw" (282 : Nat) ({ cls := "RaisedPress", name := "mark", desc := "()I" } : Jvm.MethodName)) ∈ lw_all := lw_g (lw_at lw_m6 143 rfl) rfl
theorem q1470 : (Jvm.Cond.methodLink "RaisedPressLaw" (286 : Nat) ({ cls := "RaisedPress", name := "back", desc := "()I" } : Jvm.MethodName)) ∈ lw_all := lw_g (lw_at lw_m6 151 rfl) rfl
theorem q1474 : (Jvm.Cond.classLink "RaisedPressLaw" (10 : Nat) "RaisedPressModel") ∈ lw_all := lw_g (lw_at lw_m6 155 rfl) rfl
theorem q1476 : (Jvm.Cond.methodLink "RaisedPressLaw" (12 : Nat) ({ cls := "RaisedPressModel", name := "<init>", desc := "()V" } : Jvm.MethodName)) ∈ lw_all := lw_g (lw_at lw_m6 157 rfl) rfl
theorem q1623 : (Jvm.Cond.methodLink "RaisedPressLaw" (17 : Nat) ({ cls := "RaisedPressModel", name := "status", desc := "()I" } : Jvm.MethodName)) ∈ lw_all := lw_g (lw_at lw_m7 64 rfl) rfl
theorem q1627 : (Jvm.Cond.methodLink "RaisedPressLaw" (22 : Nat) ({ cls := "RaisedPressModel", name := "top", desc := "()J" } : Jvm.MethodName)) ∈ lw_all := lw_g (lw_at lw_m7 68 rfl) rfl
theorem q1631 : (Jvm.Cond.methodLink "RaisedPressLaw" (26 : Nat) ({ cls := "RaisedPressModel", name := "bottom", desc := "()J" } : Jvm.MethodName)) ∈ lw_all := lw_g (lw_at lw_m7 72 rfl) rfl
theorem q1635 : (Jvm.Cond.methodLink "RaisedPressLaw" (31 : Nat) ({ cls := "RaisedPressModel", name := "tray", desc := "(III)Z" } : Jvm.MethodName)) ∈ lw_all := lw_g (lw_at lw_m7 76 rfl) rfl
theorem q1646 : (Jvm.Cond.methodLink "RaisedPressLaw" (38 : Nat) ({ cls := "RaisedPressModel", name := "write", desc := "(IIJ)Z" } : Jvm.MethodName)) ∈ lw_all := lw_g (lw_at lw_m7 87 rfl) rfl
theorem q1657 : (Jvm.Cond.methodLink "RaisedPressLaw" (43 : Nat) ({ cls := "RaisedPressModel", name := "read", desc := "(II)J" } : Jvm.MethodName)) ∈ lw_all := lw_g (lw_at lw_m7 98 rfl) rfl
theorem q1662 : (Jvm.Cond.methodLink "RaisedPressLaw" (48 : Nat) ({ cls := "RaisedPressModel", name := "pour", desc := "(IIIII)Z" } : Jvm.MethodName)) ∈ lw_all := lw_g (lw_at lw_m7 103 rfl) rfl
theorem q1666 : (Jvm.Cond.methodLink "RaisedPressLaw" (53 : Nat) ({ cls := "RaisedPressModel", name := "feed", desc := "(IIIII)I" } : Jvm.MethodName)) ∈ lw_all := lw_g (lw_at lw_m7 107 rfl) rfl
theorem q1674 : (Jvm.Cond.methodLink "RaisedPressLaw" (66 : Nat) ({ cls := "RaisedPressModel", name := "fault", desc := "(I)I" } : Jvm.MethodName)) ∈ lw_all := lw_g (lw_at lw_m7 115 rfl) rfl
theorem q1678 : (Jvm.Cond.methodLink "RaisedPressLaw" (58 : Nat) ({ cls := "RaisedPressModel", name := "press", desc := "(I)I" } : Jvm.MethodName)) ∈ lw_all := lw_g (lw_at lw_m7 119 rfl) rfl
theorem q1756 : (Jvm.Cond.methodLink "RaisedPressLaw" (62 : Nat) ({ cls := "RaisedPressModel", name := "writing", desc := "(I)I" } : Jvm.MethodName)) ∈ lw_all := lw_g (lw_at lw_m7 197 rfl) rfl
theorem q1828 : (Jvm.Cond.methodLink "RaisedPressLaw" (70 : Nat) ({ cls := "RaisedPressModel", name := "told", desc := "(I)I" } : Jvm.MethodName)) ∈ lw_all := lw_g (lw_at lw_m8 29 rfl) rfl
theorem q1832 : (Jvm.Cond.methodLink "RaisedPressLaw" (75 : Nat) ({ cls := "RaisedPressModel", name := "rule", desc := "(II)I" } : Jvm.MethodName)) ∈ lw_all := lw_g (lw_at lw_m8 33 rfl) rfl
theorem q1840 : (Jvm.Cond.methodLink "RaisedPressLaw" (79 : Nat) ({ cls := "RaisedPressModel", name := "letter", desc := "(II)I" } : Jvm.MethodName)) ∈ lw_all := lw_g (lw_at lw_m8 41 rfl) rfl
theorem q1844 : (Jvm.Cond.methodLink "RaisedPressLaw" (83 : Nat) ({ cls := "RaisedPressModel", name := "cellOf", desc := "(II)I" } : Jvm.MethodName)) ∈ lw_all := lw_g (lw_at lw_m8 45 rfl) rfl
theorem q1856 : (Jvm.Cond.methodLink "RaisedPressLaw" (88 : Nat) ({ cls := "RaisedPressModel", name := "drop", desc := "(IZ)Z" } : Jvm.MethodName)) ∈ lw_all := lw_g (lw_at lw_m8 57 rfl) rfl
theorem q1860 : (Jvm.Cond.methodLink "RaisedPressLaw" (92 : Nat) ({ cls := "RaisedPressModel", name := "reset", desc := "()I" } : Jvm.MethodName)) ∈ lw_all := lw_g (lw_at lw_m8 61 rfl) rfl
theorem q1872 : (Jvm.Cond.methodLink "RaisedPressLaw" (96 : Nat) ({ cls := "RaisedPressModel", name := "size", desc := "(I)I" } : Jvm.MethodName)) ∈ lw_all := lw_g (lw_at lw_m8 73 rfl) rfl
theorem q1892 : (Jvm.Cond.methodLink "RaisedPressLaw" (100 : Nat) ({ cls := "RaisedPressModel", name := "cell", desc := "(I)I" } : Jvm.MethodName)) ∈ lw_all := lw_g (lw_at lw_m8 93 rfl) rfl
theorem q1896 : (Jvm.Cond.methodLink "RaisedPressLaw" (104 : Nat) ({ cls := "RaisedPressModel", name := "line", desc := "(I)I" } : Jvm.MethodName)) ∈ lw_all := lw_g (lw_at lw_m8 97 rfl) rfl
theorem q1904 : (Jvm.Cond.methodLink "RaisedPressLaw" (108 : Nat) ({ cls := "RaisedPressModel", name := "lineAt", desc := "(II)I" } : Jvm.MethodName)) ∈ lw_all := lw_g (lw_at lw_m8 105 rfl) rfl
theorem q1908 : (Jvm.Cond.methodLink "RaisedPressLaw" (113 : Nat) ({ cls := "RaisedPressModel", name := "onPage", desc := "(III)I" } : Jvm.MethodName)) ∈ lw_all := lw_g (lw_at lw_m8 109 rfl) rfl
theorem q1912 : (Jvm.Cond.methodLink "RaisedPressLaw" (117 : Nat) ({ cls := "RaisedPressModel", name := "hyphens", desc := "()I" } : Jvm.MethodName)) ∈ lw_all := lw_g (lw_at lw_m8 113 rfl) rfl
theorem q1916 : (Jvm.Cond.methodLink "RaisedPressLaw" (121 : Nat) ({ cls := "RaisedPressModel", name := "used", desc := "(I)I" } : Jvm.MethodName)) ∈ lw_all := lw_g (lw_at lw_m8 117 rfl) rfl
theorem q1920 : (Jvm.Cond.methodLink "RaisedPressLaw" (125 : Nat) ({ cls := "RaisedPressModel", name := "useless", desc := "()I" } : Jvm.MethodName)) ∈ lw_all := lw_g (lw_at lw_m8 121 rfl) rfl
theorem q1924 : (Jvm.Cond.methodLink "RaisedPressLaw" (129 : Nat) ({ cls := "RaisedPressModel", name := "dots", desc := "()I" } : Jvm.MethodName)) ∈ lw_all := lw_g (lw_at lw_m8 125 rfl) rfl
theorem q1931 : (Jvm.Cond.methodLink "RaisedPressLaw" (149 : Nat) ({ cls := "RaisedPressModel", name := "piece", desc := "(II)I" } : Jvm.MethodName)) ∈ lw_all := lw_g (lw_at lw_m8 132 rfl) rfl
theorem q1935 : (Jvm.Cond.methodLink "RaisedPressLaw" (153 : Nat) ({ cls := "RaisedPressModel", name := "by", desc := "(I)I" } : Jvm.MethodName)) ∈ lw_all := lw_g (lw_at lw_m8 136 rfl) rfl
theorem q1939 : (Jvm.Cond.methodLink "RaisedPressLaw" (157 : Nat) ({ cls := "RaisedPressModel", name := "dense", desc := "(I)I" } : Jvm.MethodName)) ∈ lw_all := lw_g (lw_at lw_m8 140 rfl) rfl
theorem q1948 : (Jvm.Cond.methodLink "RaisedPressLaw" (161 : Nat) ({ cls := "RaisedPressModel", name := "alike", desc := "(II)I" } : Jvm.MethodName)) ∈ lw_all := lw_g (lw_at lw_m8 149 rfl) rfl
theorem q1952 : (Jvm.Cond.methodLink "RaisedPressLaw" (165 : Nat) ({ cls := "RaisedPressModel", name := "longest", desc := "()I" } : Jvm.MethodName)) ∈ lw_all := lw_g (lw_at lw_m8 153 rfl) rfl
theorem q1956 : (Jvm.Cond.methodLink "RaisedPressLaw" (169 : Nat) ({ cls := "RaisedPressModel", name := "inLine", desc := "(I)I" } : Jvm.MethodName)) ∈ lw_all := lw_g (lw_at lw_m8 157 rfl) rfl
theorem q1960 : (Jvm.Cond.methodLink "RaisedPressLaw" (193 : Nat) ({ cls := "RaisedPressModel", name := "covers", desc := "(I)I" } : Jvm.MethodName)) ∈ lw_all := lw_g (lw_at lw_m8 161 rfl) rfl
theorem q1964 : (Jvm.Cond.methodLink "RaisedPressLaw" (197 : Nat) ({ cls := "RaisedPressModel", name := "often", desc := "(I)I" } : Jvm.MethodName)) ∈ lw_all := lw_g (lw_at lw_m8 165 rfl) rfl
theorem q1973 : (Jvm.Cond.methodLink "RaisedPressLaw" (201 : Nat) ({ cls := "RaisedPressModel", name := "commonest", desc := "()I" } : Jvm.MethodName)) ∈ lw_all := lw_g (lw_at lw_m8 174 rfl) rfl
theorem q1977 : (Jvm.Cond.methodLink "RaisedPressLaw" (205 : Nat) ({ cls := "RaisedPressModel", name := "ragged", desc := "()I" } : Jvm.MethodName)) ∈ lw_all := lw_g (lw_at lw_m8 178 rfl) rfl
theorem q1985 : (Jvm.Cond.methodLink "RaisedPressLaw" (209 : Nat) ({ cls := "RaisedPressModel", name := "leastRagged", desc := "()I" } : Jvm.MethodName)) ∈ lw_all := lw_g (lw_at lw_m8 186 rfl) rfl
theorem q1990 : (Jvm.Cond.methodLink "RaisedPressLaw" (173 : Nat) ({ cls := "RaisedPressModel", name := "wasted", desc := "(I)I" } : Jvm.MethodName)) ∈ lw_all := lw_g (lw_at lw_m8 191 rfl) rfl
theorem q1994 : (Jvm.Cond.methodLink "RaisedPressLaw" (181 : Nat) ({ cls := "RaisedPressModel", name := "frequent", desc := "()I" } : Jvm.MethodName)) ∈ lw_all := lw_g (lw_at lw_m8 195 rfl) rfl
theorem q1998 : (Jvm.Cond.methodLink "RaisedPressLaw" (189 : Nat) ({ cls := "RaisedPressModel", name := "signs", desc := "(I)I" } : Jvm.MethodName)) ∈ lw_all := lw_g (lw_at lw_m8 199 rfl) rfl
theorem q2002 : (Jvm.Cond.methodLink "RaisedPressLaw" (185 : Nat) ({ cls := "RaisedPressModel", name := "pieceOf", desc := "(I)I" } : Jvm.MethodName)) ∈ lw_all := lw_g (lw_at lw_m8 203 rfl) rfl
theorem q2006 : (Jvm.Cond.methodLink "RaisedPressLaw" (177 : Nat) ({ cls := "RaisedPressModel", name := "saved", desc := "()I" } : Jvm.MethodName)) ∈ lw_all := lw_g (lw_at lw_m8 207 rfl) rfl
theorem q2014 : (Jvm.Cond.methodLink "RaisedPressLaw" (133 : Nat) ({ cls := "RaisedPressModel", name := "plain", desc := "()I" } : Jvm.MethodName)) ∈ lw_all := lw_g (lw_at lw_m8 215 rfl) rfl
theorem q2018 : (Jvm.Cond.methodLink "RaisedPressLaw" (137 : Nat) ({ cls := "RaisedPressModel", name := "fewest", desc := "()I" } : Jvm.MethodName)) ∈ lw_all := lw_g (lw_at lw_m8 219 rfl) rfl
theorem q2027 : (Jvm.Cond.methodLink "RaisedPressLaw" (141 : Nat) ({ cls := "RaisedPressModel", name := "saving", desc := "(I)I" } : Jvm.MethodName)) ∈ lw_all := lw_g (lw_at lw_m8 228 rfl) rfl
theorem q2035 : (Jvm.Cond.methodLink "RaisedPressLaw" (145 : Nat) ({ cls := "RaisedPressModel", name := "cheapest", desc := "()I" } : Jvm.MethodName)) ∈ lw_all := lw_g (lw_at lw_m8 236 rfl) rfl
theorem q2039 : (Jvm.Cond.methodLink "RaisedPressLaw" (213 : Nat) ({ cls := "RaisedPressModel", name := "ways", desc := "(II)I" } : Jvm.MethodName)) ∈ lw_all := lw_g (lw_at lw_m9 0 rfl) rfl
theorem q2060 : (Jvm.Cond.methodLink "RaisedPressLaw" (217 : Nat) ({ cls := "RaisedPressModel", name := "first", desc := "(II)I" } : Jvm.MethodName)) ∈ lw_all := lw_g (lw_at lw_m9 21 rfl) rfl
theorem q2064 : (Jvm.Cond.methodLink "RaisedPressLaw" (221 : Nat) ({ cls := "RaisedPressModel", name := "firstAt", desc := "(I)I" } : Jvm.MethodName)) ∈ lw_all := lw_g (lw_at lw_m9 25 rfl) rfl
theorem q2068 : (Jvm.Cond.methodLink "RaisedPressLaw" (225 : Nat) ({ cls := "RaisedPressModel", name := "letters", desc := "()I" } : Jvm.MethodName)) ∈ lw_all := lw_g (lw_at lw_m9 29 rfl) rfl
theorem q2072 : (Jvm.Cond.methodLink "RaisedPressLaw" (229 : Nat) ({ cls := "RaisedPressModel", name := "truths", desc := "(II)I" } : Jvm.MethodName)) ∈ lw_all := lw_g (lw_at lw_m9 33 rfl) rfl
theorem q2080 : (Jvm.Cond.methodLink "RaisedPressLaw" (233 : Nat) ({ cls := "RaisedPressModel", name := "failed", desc := "(III)I" } : Jvm.MethodName)) ∈ lw_all := lw_g (lw_at lw_m9 41 rfl) rfl
theorem q2084 : (Jvm.Cond.methodLink "RaisedPressLaw" (237 : Nat) ({ cls := "RaisedPressModel", name := "mirror", desc := "(I)I" } : Jvm.MethodName)) ∈ lw_all := lw_g (lw_at lw_m9 45 rfl) rfl
theorem q2091 : (Jvm.Cond.methodLink "RaisedPressLaw" (241 : Nat) ({ cls := "RaisedPressModel", name := "turned", desc := "(I)I" } : Jvm.MethodName)) ∈ lw_all := lw_g (lw_at lw_m9 52 rfl) rfl
theorem q2099 : (Jvm.Cond.methodLink "RaisedPressLaw" (245 : Nat) ({ cls := "RaisedPressModel", name := "twins", desc := "()I" } : Jvm.MethodName)) ∈ lw_all := lw_g (lw_at lw_m9 60 rfl) rfl
theorem q2111 : (Jvm.Cond.methodLink "RaisedPressLaw" (249 : Nat) ({ cls := "RaisedPressModel", name := "near", desc := "(II)I" } : Jvm.MethodName)) ∈ lw_all := lw_g (lw_at lw_m9 72 rfl) rfl
theorem q2115 : (Jvm.Cond.methodLink "RaisedPressLaw" (253 : Nat) ({ cls := "RaisedPressModel", name := "clash", desc := "(II)I" } : Jvm.MethodName)) ∈ lw_all := lw_g (lw_at lw_m9 76 rfl) rfl
theorem q2119 : (Jvm.Cond.methodLink "RaisedPressLaw" (257 : Nat) ({ cls := "RaisedPressModel", name := "clashes", desc := "()I" } : Jvm.MethodName)) ∈ lw_all := lw_g (lw_at lw_m9 80 rfl) rfl
theorem q2123 : (Jvm.Cond.methodLink "RaisedPressLaw" (261 : Nat) ({ cls := "RaisedPressModel", name := "clear", desc := "()I" } : Jvm.MethodName)) ∈ lw_all := lw_g (lw_at lw_m9 84 rfl) rfl
theorem q2149 : (Jvm.Cond.methodLink "RaisedPressLaw" (265 : Nat) ({ cls := "RaisedPressModel", name := "twin", desc := "()I" } : Jvm.MethodName)) ∈ lw_all := lw_g (lw_at lw_m9 110 rfl) rfl
theorem q2153 : (Jvm.Cond.methodLink "RaisedPressLaw" (269 : Nat) ({ cls := "RaisedPressModel", name := "lacks", desc := "()I" } : Jvm.MethodName)) ∈ lw_all := lw_g (lw_at lw_m9 114 rfl) rfl
theorem q2157 : (Jvm.Cond.methodLink "RaisedPressLaw" (273 : Nat) ({ cls := "RaisedPressModel", name := "worn", desc := "(II)I" } : Jvm.MethodName)) ∈ lw_all := lw_g (lw_at lw_m9 118 rfl) rfl
theorem q2172 : (Jvm.Cond.methodLink "RaisedPressLaw" (277 : Nat) ({ cls := "RaisedPressModel", name := "wornAt", desc := "(I)I" } : Jvm.MethodName)) ∈ lw_all := lw_g (lw_at lw_m9 133 rfl) rfl
theorem q2176 : (Jvm.Cond.methodLink "RaisedPressLaw" (281 : Nat) ({ cls := "RaisedPressModel", name := "odds", desc := "(III)Z" } : Jvm.MethodName)) ∈ lw_all := lw_g (lw_at lw_m9 137 rfl) rfl
theorem q2185 : (Jvm.Cond.methodLink "RaisedPressLaw" (285 : Nat) ({ cls := "RaisedPressModel", name := "mark", desc := "()I" } : Jvm.MethodName)) ∈ lw_all := lw_g (lw_at lw_m9 146 rfl) rfl
theorem q2193 : (Jvm.Cond.methodLink "RaisedPressLaw" (289 : Nat) ({ cls := "RaisedPressModel", name := "back", desc := "()I" } : Jvm.MethodName)) ∈ lw_all := lw_g (lw_at lw_m9 154 rfl) rfl
theorem q2197 : (Jvm.Cond.constantLong "RaisedPressLaw" (32 : Nat) (4294967295 : Int64)) ∈ lw_all := lw_g (lw_at lw_m9 158 rfl) rfl
theorem q135 : (Jvm.Cond.initialized "java/lang/System") ∈ lw_all := lw_g (lw_at lw_m1 16 rfl) rfl
set_option maxRecDepth 100000
theorem q611 : (Jvm.Cond.static ({ cls := "java/lang/System", name := "arraycopy", desc := "(Ljava/lang/Object;ILjava/lang/Object;II)V" } : Jvm.MethodName)) ∈ lw_all := lw_g (lw_at lw_m3 12 rfl) rfl
theorem q612 : (Jvm.Cond.native ({ cls := "java/lang/System", name := "arraycopy", desc := "(Ljava/lang/Object;ILjava/lang/Object;II)V" } : Jvm.MethodName)) ∈ lw_all := lw_g (lw_at lw_m3 13 rfl) rfl
/-! java/lang/Throwable -/
set_option maxRecDepth 100000
def RJ0 : String := "java/lang/Throwable"
def TJ0 : u_T := fun k => match k with
  | 0 => ("java/lang/Throwable", "cause", "Ljava/lang/Throwable;", false)
  | 1 => ("java/lang/Throwable", "stackTrace", "[Ljava/lang/StackTraceElement;", false)
  | 2 => ("java/lang/Throwable", "suppressedExceptions", "Ljava/util/List;", false)
  | 3 => ("java/lang/Throwable", "detailMessage", "Ljava/lang/String;", false)
  | _ => ("java/lang/Throwable", "backtrace", "Ljava/lang/Object;", false)
def tyJ0 : Nat → FieldType := fun k => match k with
  | 0 => .object "java/lang/Throwable"
  | 1 => .array (.object "java/lang/StackTraceElement")
  | 2 => .object "java/util/List"
  | 3 => .object "java/lang/String"
  | _ => .object "java/lang/Object"
abbrev wsJ00 : List Cond := u_ws RJ0 TJ0 5
theorem nmJ0 : ∀ a, a < 5 → ∀ b, b < 5 → a ≠ b → (TJ0 a).2.1 ≠ (TJ0 b).2.1 := by decide +kernel
theorem tyJ0_ok : ∀ k, k < 5 → parseFieldDescriptor (TJ0 k).2.2.1 = some (tyJ0 k) := by decide +kernel
abbrev cJ0_init : ByteArray := prog_30_method_1_code
def yJ0_init : MethodName := ⟨RJ0, "<init>", "()V"⟩
def dkwJ0_init_1 : List UInt8 := [182, 0, 27, 87, 177]
abbrev dktJ0_init_1 : List UInt8 := dkwJ0_init_1 ++ []
def dkwJ0_init_0 : List UInt8 := [42, 183, 0, 1, 42, 42, 181, 0, 7, 42, 178, 0, 13, 181, 0, 17, 42, 178, 0, 20, 181, 0, 24, 42]
abbrev dktJ0_init_0 : List UInt8 := dkwJ0_init_0 ++ dktJ0_init_1
theorem dksJ0_init_0 : cJ0_init.data.toList.drop 0 = dktJ0_init_0 := by decide +kernel
theorem dksJ0_init_1 : cJ0_init.data.toList.drop 24 = dktJ0_init_1 := dk_seg dksJ0_init_0 24 rfl rfl
theorem dJ0_init_0 : decode cJ0_init 0 = .ok (.aload_n 0, 1) := dk_42 (dk_at dksJ0_init_0 0 rfl rfl)
theorem dJ0_init_1 : decode cJ0_init 1 = .ok (.invokespecial 1, 3) := dk_183 0 1 (dk_at dksJ0_init_0 1 rfl rfl)
theorem dJ0_init_4 : decode cJ0_init 4 = .ok (.aload_n 0, 1) := dk_42 (dk_at dksJ0_init_0 4 rfl rfl)
theorem dJ0_init_5 : decode cJ0_init 5 = .ok (.aload_n 0, 1) := dk_42 (dk_at dksJ0_init_0 5 rfl rfl)
theorem dJ0_init_6 : decode cJ0_init 6 = .ok (.putfield 7, 3) := dk_181 0 7 (dk_at dksJ0_init_0 6 rfl rfl)
theorem dJ0_init_9 : decode cJ0_init 9 = .ok (.aload_n 0, 1) := dk_42 (dk_at dksJ0_init_0 9 rfl rfl)
theorem dJ0_init_10 : decode cJ0_init 10 = .ok (.getstatic 13, 3) := dk_178 0 13 (dk_at dksJ0_init_0 10 rfl rfl)
theorem dJ0_init_13 : decode cJ0_init 13 = .ok (.putfield 17, 3) := dk_181 0 17 (dk_at dksJ0_init_0 13 rfl rfl)
theorem dJ0_init_16 : decode cJ0_init 16 = .ok (.aload_n 0, 1) := dk_42 (dk_at dksJ0_init_0 16 rfl rfl)
theorem dJ0_init_17 : decode cJ0_init 17 = .ok (.getstatic 20, 3) := dk_178 0 20 (dk_at dksJ0_init_0 17 rfl rfl)
theorem dJ0_init_20 : decode cJ0_init 20 = .ok (.putfield 24, 3) := dk_181 0 24 (dk_at dksJ0_init_0 20 rfl rfl)
theorem dJ0_init_23 : decode cJ0_init 23 = .ok (.aload_n 0, 1) := dk_42 (dk_at dksJ0_init_0 23 rfl rfl)
theorem dJ0_init_24 : decode cJ0_init 24 = .ok (.invokevirtual 27, 3) := dk_182 0 27 (dk_at dksJ0_init_1 0 rfl rfl)
theorem dJ0_init_27 : decode cJ0_init 27 = .ok (.pop, 1) := dk_87 (dk_at dksJ0_init_1 3 rfl rfl)
theorem dJ0_init_28 : decode cJ0_init 28 = .ok (.return_, 1) := dk_177 (dk_at dksJ0_init_1 4 rfl rfl)
abbrev cJ0_init_2 : ByteArray := prog_30_method_5_code
def yJ0_init_2 : MethodName := ⟨RJ0, "<init>", "(Ljava/lang/String;Ljava/lang/Throwable;ZZ)V"⟩
def dkwJ0_init_2_2 : List UInt8 := [44, 181, 0, 7, 29, 154, 0, 8, 42, 1, 181, 0, 24, 177]
abbrev dktJ0_init_2_2 : List UInt8 := dkwJ0_init_2_2 ++ []
def dkwJ0_init_2_1 : List UInt8 := [21, 4, 153, 0, 11, 42, 182, 0, 27, 87, 167, 0, 8, 42, 1, 181, 0, 17, 42, 43, 181, 0, 31, 42]
abbrev dktJ0_init_2_1 : List UInt8 := dkwJ0_init_2_1 ++ dktJ0_init_2_2
def dkwJ0_init_2_0 : List UInt8 := [42, 183, 0, 1, 42, 42, 181, 0, 7, 42, 178, 0, 13, 181, 0, 17, 42, 178, 0, 20, 181, 0, 24]
abbrev dktJ0_init_2_0 : List UInt8 := dkwJ0_init_2_0 ++ dktJ0_init_2_1
theorem dksJ0_init_2_0 : cJ0_init_2.data.toList.drop 0 = dktJ0_init_2_0 := by decide +kernel
theorem dksJ0_init_2_1 : cJ0_init_2.data.toList.drop 23 = dktJ0_init_2_1 := dk_seg dksJ0_init_2_0 23 rfl rfl
theorem dksJ0_init_2_2 : cJ0_init_2.data.toList.drop 47 = dktJ0_init_2_2 := dk_seg dksJ0_init_2_1 24 rfl rfl
theorem dJ0_init_2_0 : decode cJ0_init_2 0 = .ok (.aload_n 0, 1) := dk_42 (dk_at dksJ0_init_2_0 0 rfl rfl)
theorem dJ0_init_2_1 : decode cJ0_init_2 1 = .ok (.invokespecial 1, 3) := dk_183 0 1 (dk_at dksJ0_init_2_0 1 rfl rfl)
theorem dJ0_init_2_4 : decode cJ0_init_2 4 = .ok (.aload_n 0, 1) := dk_42 (dk_at dksJ0_init_2_0 4 rfl rfl)
theorem dJ0_init_2_5 : decode cJ0_init_2 5 = .ok (.aload_n 0, 1) := dk_42 (dk_at dksJ0_init_2_0 5 rfl rfl)
theorem dJ0_init_2_6 : decode cJ0_init_2 6 = .ok (.putfield 7, 3) := dk_181 0 7 (dk_at dksJ0_init_2_0 6 rfl rfl)
theorem dJ0_init_2_9 : decode cJ0_init_2 9 = .ok (.aload_n 0, 1) := dk_42 (dk_at dksJ0_init_2_0 9 rfl rfl)
theorem dJ0_init_2_10 : decode cJ0_init_2 10 = .ok (.getstatic 13, 3) := dk_178 0 13 (dk_at dksJ0_init_2_0 10 rfl rfl)
theorem dJ0_init_2_13 : decode cJ0_init_2 13 = .ok (.putfield 17, 3) := dk_181 0 17 (dk_at dksJ0_init_2_0 13 rfl rfl)
theorem dJ0_init_2_16 : decode cJ0_init_2 16 = .ok (.aload_n 0, 1) := dk_42 (dk_at dksJ0_init_2_0 16 rfl rfl)
theorem dJ0_init_2_17 : decode cJ0_init_2 17 = .ok (.getstatic 20, 3) := dk_178 0 20 (dk_at dksJ0_init_2_0 17 rfl rfl)
theorem dJ0_init_2_20 : decode cJ0_init_2 20 = .ok (.putfield 24, 3) := dk_181 0 24 (dk_at dksJ0_init_2_0 20 rfl rfl)
theorem dJ0_init_2_23 : decode cJ0_init_2 23 = .ok (.iload 4, 2) := dk_21 4 (dk_at dksJ0_init_2_1 0 rfl rfl)
theorem dJ0_init_2_25 : decode cJ0_init_2 25 = .ok (.ifCond .eq 11, 3) := dk_153 0 11 (dk_at dksJ0_init_2_1 2 rfl rfl)
theorem dJ0_init_2_28 : decode cJ0_init_2 28 = .ok (.aload_n 0, 1) := dk_42 (dk_at dksJ0_init_2_1 5 rfl rfl)
theorem dJ0_init_2_29 : decode cJ0_init_2 29 = .ok (.invokevirtual 27, 3) := dk_182 0 27 (dk_at dksJ0_init_2_1 6 rfl rfl)
theorem dJ0_init_2_32 : decode cJ0_init_2 32 = .ok (.pop, 1) := dk_87 (dk_at dksJ0_init_2_1 9 rfl rfl)
theorem dJ0_init_2_33 : decode cJ0_init_2 33 = .ok (.goto 8, 3) := dk_167 0 8 (dk_at dksJ0_init_2_1 10 rfl rfl)
theorem dJ0_init_2_36 : decode cJ0_init_2 36 = .ok (.aload_n 0, 1) := dk_42 (dk_at dksJ0_init_2_1 13 rfl rfl)
theorem dJ0_init_2_37 : decode cJ0_init_2 37 = .ok (.aconst_null, 1) := dk_1 (dk_at dksJ0_init_2_1 14 rfl rfl)
theorem dJ0_init_2_38 : decode cJ0_init_2 38 = .ok (.putfield 17, 3) := dk_181 0 17 (dk_at dksJ0_init_2_1 15 rfl rfl)
theorem dJ0_init_2_41 : decode cJ0_init_2 41 = .ok (.aload_n 0, 1) := dk_42 (dk_at dksJ0_init_2_1 18 rfl rfl)
theorem dJ0_init_2_42 : decode cJ0_init_2 42 = .ok (.aload_n 1, 1) := dk_43 (dk_at dksJ0_init_2_1 19 rfl rfl)
theorem dJ0_init_2_43 : decode cJ0_init_2 43 = .ok (.putfield 31, 3) := dk_181 0 31 (dk_at dksJ0_init_2_1 20 rfl rfl)
theorem dJ0_init_2_46 : decode cJ0_init_2 46 = .ok (.aload_n 0, 1) := dk_42 (dk_at dksJ0_init_2_1 23 rfl rfl)
theorem dJ0_init_2_47 : decode cJ0_init_2 47 = .ok (.aload_n 2, 1) := dk_44 (dk_at dksJ0_init_2_2 0 rfl rfl)
theorem dJ0_init_2_48 : decode cJ0_init_2 48 = .ok (.putfield 7, 3) := dk_181 0 7 (dk_at dksJ0_init_2_2 1 rfl rfl)
theorem dJ0_init_2_51 : decode cJ0_init_2 51 = .ok (.iload_n 3, 1) := dk_29 (dk_at dksJ0_init_2_2 4 rfl rfl)
theorem dJ0_init_2_52 : decode cJ0_init_2 52 = .ok (.ifCond .ne 8, 3) := dk_154 0 8 (dk_at dksJ0_init_2_2 5 rfl rfl)
theorem dJ0_init_2_55 : decode cJ0_init_2 55 = .ok (.aload_n 0, 1) := dk_42 (dk_at dksJ0_init_2_2 8 rfl rfl)
theorem dJ0_init_2_56 : decode cJ0_init_2 56 = .ok (.aconst_null, 1) := dk_1 (dk_at dksJ0_init_2_2 9 rfl rfl)
theorem dJ0_init_2_57 : decode cJ0_init_2 57 = .ok (.putfield 24, 3) := dk_181 0 24 (dk_at dksJ0_init_2_2 10 rfl rfl)
theorem dJ0_init_2_60 : decode cJ0_init_2 60 = .ok (.return_, 1) := dk_177 (dk_at dksJ0_init_2_2 13 rfl rfl)
abbrev cJ0_init_3 : ByteArray := prog_30_method_2_code
def yJ0_init_3 : MethodName := ⟨RJ0, "<init>", "(Ljava/lang/String;)V"⟩
def dkwJ0_init_3_1 : List UInt8 := [182, 0, 27, 87, 42, 43, 181, 0, 31, 177]
abbrev dktJ0_init_3_1 : List UInt8 := dkwJ0_init_3_1 ++ []
def dkwJ0_init_3_0 : List UInt8 := [42, 183, 0, 1, 42, 42, 181, 0, 7, 42, 178, 0, 13, 181, 0, 17, 42, 178, 0, 20, 181, 0, 24, 42]
abbrev dktJ0_init_3_0 : List UInt8 := dkwJ0_init_3_0 ++ dktJ0_init_3_1
theorem dksJ0_init_3_0 : cJ0_init_3.data.toList.drop 0 = dktJ0_init_3_0 := by decide +kernel
theorem dksJ0_init_3_1 : cJ0_init_3.data.toList.drop 24 = dktJ0_init_3_1 := dk_seg dksJ0_init_3_0 24 rfl rfl
theorem dJ0_init_3_0 : decode cJ0_init_3 0 = .ok (.aload_n 0, 1) := dk_42 (dk_at dksJ0_init_3_0 0 rfl rfl)
theorem dJ0_init_3_1 : decode cJ0_init_3 1 = .ok (.invokespecial 1, 3) := dk_183 0 1 (dk_at dksJ0_init_3_0 1 rfl rfl)
theorem dJ0_init_3_4 : decode cJ0_init_3 4 = .ok (.aload_n 0, 1) := dk_42 (dk_at dksJ0_init_3_0 4 rfl rfl)
theorem dJ0_init_3_5 : decode cJ0_init_3 5 = .ok (.aload_n 0, 1) := dk_42 (dk_at dksJ0_init_3_0 5 rfl rfl)
theorem dJ0_init_3_6 : decode cJ0_init_3 6 = .ok (.putfield 7, 3) := dk_181 0 7 (dk_at dksJ0_init_3_0 6 rfl rfl)
theorem dJ0_init_3_9 : decode cJ0_init_3 9 = .ok (.aload_n 0, 1) := dk_42 (dk_at dksJ0_init_3_0 9 rfl rfl)
theorem dJ0_init_3_10 : decode cJ0_init_3 10 = .ok (.getstatic 13, 3) := dk_178 0 13 (dk_at dksJ0_init_3_0 10 rfl rfl)
theorem dJ0_init_3_13 : decode cJ0_init_3 13 = .ok (.putfield 17, 3) := dk_181 0 17 (dk_at dksJ0_init_3_0 13 rfl rfl)
theorem dJ0_init_3_16 : decode cJ0_init_3 16 = .ok (.aload_n 0, 1) := dk_42 (dk_at dksJ0_init_3_0 16 rfl rfl)
theorem dJ0_init_3_17 : decode cJ0_init_3 17 = .ok (.getstatic 20, 3) := dk_178 0 20 (dk_at dksJ0_init_3_0 17 rfl rfl)
theorem dJ0_init_3_20 : decode cJ0_init_3 20 = .ok (.putfield 24, 3) := dk_181 0 24 (dk_at dksJ0_init_3_0 20 rfl rfl)
theorem dJ0_init_3_23 : decode cJ0_init_3 23 = .ok (.aload_n 0, 1) := dk_42 (dk_at dksJ0_init_3_0 23 rfl rfl)
theorem dJ0_init_3_24 : decode cJ0_init_3 24 = .ok (.invokevirtual 27, 3) := dk_182 0 27 (dk_at dksJ0_init_3_1 0 rfl rfl)
theorem dJ0_init_3_27 : decode cJ0_init_3 27 = .ok (.pop, 1) := dk_87 (dk_at dksJ0_init_3_1 3 rfl rfl)
theorem dJ0_init_3_28 : decode cJ0_init_3 28 = .ok (.aload_n 0, 1) := dk_42 (dk_at dksJ0_init_3_1 4 rfl rfl)
theorem dJ0_init_3_29 : decode cJ0_init_3 29 = .ok (.aload_n 1, 1) := dk_43 (dk_at dksJ0_init_3_1 5 rfl rfl)
theorem dJ0_init_3_30 : decode cJ0_init_3 30 = .ok (.putfield 31, 3) := dk_181 0 31 (dk_at dksJ0_init_3_1 6 rfl rfl)
theorem dJ0_init_3_33 : decode cJ0_init_3 33 = .ok (.return_, 1) := dk_177 (dk_at dksJ0_init_3_1 9 rfl rfl)
theorem q122 : (Jvm.Cond.initialized "java/lang/Throwable") ∈ lw_all := lw_g (lw_at lw_m1 3 rfl) rfl
theorem q174 : (Jvm.Cond.declares ({ cls := "java/lang/Throwable", name := "<init>", desc := "()V" } : Jvm.MethodName)) ∈ lw_tbl := lw_at lw_m1 55 rfl
theorem q175 : (Jvm.Cond.declares ({ cls := "java/lang/Throwable", name := "<init>", desc := "(Ljava/lang/String;)V" } : Jvm.MethodName)) ∈ lw_tbl := lw_at lw_m1 56 rfl
theorem q179 : (Jvm.Cond.lays "java/lang/Throwable" "java/lang/Throwable" "cause" "Ljava/lang/Throwable;") ∈ lw_all := lw_g (lw_at lw_m1 60 rfl) rfl
theorem q181 : (Jvm.Cond.lays "java/lang/Throwable" "java/lang/Throwable" "stackTrace" "[Ljava/lang/StackTraceElement;") ∈ lw_all := lw_g (lw_at lw_m1 62 rfl) rfl
theorem q183 : (Jvm.Cond.lays "java/lang/Throwable" "java/lang/Throwable" "suppressedExceptions" "Ljava/util/List;") ∈ lw_all := lw_g (lw_at lw_m1 64 rfl) rfl
theorem q185 : (Jvm.Cond.lays "java/lang/Throwable" "java/lang/Throwable" "detailMessage" "Ljava/lang/String;") ∈ lw_all := lw_g (lw_at lw_m1 66 rfl) rfl
theorem q187 : (Jvm.Cond.lays "java/lang/Throwable" "java/lang/Throwable" "backtrace" "Ljava/lang/Object;") ∈ lw_all := lw_g (lw_at lw_m1 68 rfl) rfl
theorem q188 : (Jvm.Cond.fieldLink "java/lang/Throwable" (198 : Nat) "java/lang/Throwable" "backtrace" "Ljava/lang/Object;") ∈ lw_all := lw_g (lw_at lw_m1 69 rfl) rfl
theorem q189 : (Jvm.Cond.superclass "java/lang/Throwable" "java/lang/Object") ∈ lw_all := lw_g (lw_at lw_m1 70 rfl) rfl
theorem q190 : (Jvm.Cond.instanceMethod ({ cls := "java/lang/Throwable", name := "<init>", desc := "()V" } : Jvm.MethodName)) ∈ lw_all := lw_g (lw_at lw_m1 71 rfl) rfl
theorem q191 : (Jvm.Cond.code ({ cls := "java/lang/Throwable", name := "<init>", desc := "()V" } : Jvm.MethodName) prog_30_method_1_code (1 : Nat) (Option.none : Option Jvm.ClassFile.FieldType)) ∈ lw_all := lw_g (lw_at lw_m1 72 rfl) rfl
theorem q192 : (Jvm.Cond.methodLink "java/lang/Throwable" (1 : Nat) ({ cls := "java/lang/Object", name := "<init>", desc := "()V" } : Jvm.MethodName)) ∈ lw_all := lw_g (lw_at lw_m1 73 rfl) rfl
theorem q193 : (Jvm.Cond.fieldLink "java/lang/Throwable" (13 : Nat) "java/lang/Throwable" "UNASSIGNED_STACK" "[Ljava/lang/StackTraceElement;") ∈ lw_all := lw_g (lw_at lw_m1 74 rfl) rfl
theorem q194 : (Jvm.Cond.laysStatic "java/lang/Throwable" "UNASSIGNED_STACK" "[Ljava/lang/StackTraceElement;") ∈ lw_tbl := lw_at lw_m1 75 rfl
theorem q195 : (Jvm.Cond.fieldLink "java/lang/Throwable" (20 : Nat) "java/lang/Throwable" "SUPPRESSED_SENTINEL" "Ljava/util/List;") ∈ lw_all := lw_g (lw_at lw_m1 76 rfl) rfl
theorem q196 : (Jvm.Cond.laysStatic "java/lang/Throwable" "SUPPRESSED_SENTINEL" "Ljava/util/List;") ∈ lw_tbl := lw_at lw_m1 77 rfl
theorem q197 : (Jvm.Cond.methodLink "java/lang/Throwable" (27 : Nat) ({ cls := "java/lang/Throwable", name := "fillInStackTrace", desc := "()Ljava/lang/Throwable;" } : Jvm.MethodName)) ∈ lw_all := lw_g (lw_at lw_m1 78 rfl) rfl
theorem q198 : (Jvm.Cond.instanceMethod ({ cls := "java/lang/Throwable", name := "fillInStackTrace", desc := "()Ljava/lang/Throwable;" } : Jvm.MethodName)) ∈ lw_all := lw_g (lw_at lw_m1 79 rfl) rfl
theorem q199 : (Jvm.Cond.sameMethod "java/lang/Throwable" "java/lang/Throwable" "fillInStackTrace" "()Ljava/lang/Throwable;") ∈ lw_all := lw_g (lw_at lw_m1 80 rfl) rfl
theorem q203 : (Jvm.Cond.codeSync ({ cls := "java/lang/Throwable", name := "fillInStackTrace", desc := "()Ljava/lang/Throwable;" } : Jvm.MethodName) prog_30_method_18_code (1 : Nat) (Option.some (Jvm.ClassFile.FieldType.object "java/lang/Throwable"))) ∈ lw_all := lw_g (lw_at lw_m1 84 rfl) rfl
theorem q204 : (Jvm.Cond.methodLink "java/lang/Throwable" (202 : Nat) ({ cls := "java/lang/Throwable", name := "fillInStackTrace", desc := "(I)Ljava/lang/Throwable;" } : Jvm.MethodName)) ∈ lw_all := lw_g (lw_at lw_m1 85 rfl) rfl
theorem q205 : (Jvm.Cond.privateMethod ({ cls := "java/lang/Throwable", name := "fillInStackTrace", desc := "(I)Ljava/lang/Throwable;" } : Jvm.MethodName)) ∈ lw_tbl := lw_at lw_m1 86 rfl
theorem q206 : (Jvm.Cond.instanceMethod ({ cls := "java/lang/Throwable", name := "fillInStackTrace", desc := "(I)Ljava/lang/Throwable;" } : Jvm.MethodName)) ∈ lw_all := lw_g (lw_at lw_m1 87 rfl) rfl
theorem q207 : (Jvm.Cond.instantiable "java/lang/Throwable" (6 : Nat)) ∈ lw_all := lw_g (lw_at lw_m1 88 rfl) rfl
theorem q208 : (Jvm.Cond.native ({ cls := "java/lang/Throwable", name := "fillInStackTrace", desc := "(I)Ljava/lang/Throwable;" } : Jvm.MethodName)) ∈ lw_all := lw_g (lw_at lw_m1 89 rfl) rfl
theorem q216 : (Jvm.Cond.instanceMethod ({ cls := "java/lang/Throwable", name := "<init>", desc := "(Ljava/lang/String;Ljava/lang/Throwable;ZZ)V" } : Jvm.MethodName)) ∈ lw_all := lw_g (lw_at lw_m1 97 rfl) rfl
theorem q217 : (Jvm.Cond.code ({ cls := "java/lang/Throwable", name := "<init>", desc := "(Ljava/lang/String;Ljava/lang/Throwable;ZZ)V" } : Jvm.MethodName) prog_30_method_5_code (5 : Nat) (Option.none : Option Jvm.ClassFile.FieldType)) ∈ lw_all := lw_g (lw_at lw_m1 98 rfl) rfl
theorem q222 : (Jvm.Cond.fieldLink "java/lang/Throwable" (198 : Nat) "java/lang/Throwable" "backtrace" "Ljava/lang/Object;") ∈ lw_all := lw_g (lw_at lw_m1 103 rfl) rfl
theorem q223 : (Jvm.Cond.fieldLink "java/lang/Throwable" (31 : Nat) "java/lang/Throwable" "detailMessage" "Ljava/lang/String;") ∈ lw_all := lw_g (lw_at lw_m1 104 rfl) rfl
theorem q224 : (Jvm.Cond.fieldLink "java/lang/Throwable" (7 : Nat) "java/lang/Throwable" "cause" "Ljava/lang/Throwable;") ∈ lw_all := lw_g (lw_at lw_m1 105 rfl) rfl
theorem q225 : (Jvm.Cond.fieldLink "java/lang/Throwable" (17 : Nat) "java/lang/Throwable" "stackTrace" "[Ljava/lang/StackTraceElement;") ∈ lw_all := lw_g (lw_at lw_m1 106 rfl) rfl
theorem q226 : (Jvm.Cond.fieldLink "java/lang/Throwable" (24 : Nat) "java/lang/Throwable" "suppressedExceptions" "Ljava/util/List;") ∈ lw_all := lw_g (lw_at lw_m1 107 rfl) rfl
theorem q231 : (Jvm.Cond.soleField "java/lang/Throwable" "backtrace") ∈ lw_all := lw_g (lw_at lw_m1 112 rfl) rfl
theorem q232 : (Jvm.Cond.soleField "java/lang/Throwable" "detailMessage") ∈ lw_all := lw_g (lw_at lw_m1 113 rfl) rfl
theorem q233 : (Jvm.Cond.soleField "java/lang/Throwable" "cause") ∈ lw_all := lw_g (lw_at lw_m1 114 rfl) rfl
theorem q234 : (Jvm.Cond.soleField "java/lang/Throwable" "stackTrace") ∈ lw_all := lw_g (lw_at lw_m1 115 rfl) rfl
theorem q236 : (Jvm.Cond.soleField "java/lang/Throwable" "depth") ∈ lw_all := lw_g (lw_at lw_m1 117 rfl) rfl
theorem q237 : (Jvm.Cond.soleField "java/lang/Throwable" "suppressedExceptions") ∈ lw_all := lw_g (lw_at lw_m1 118 rfl) rfl
theorem q521 : (Jvm.Cond.instanceMethod ({ cls := "java/lang/Throwable", name := "<init>", desc := "(Ljava/lang/String;)V" } : Jvm.MethodName)) ∈ lw_all := lw_g (lw_at lw_m2 162 rfl) rfl
theorem q522 : (Jvm.Cond.code ({ cls := "java/lang/Throwable", name := "<init>", desc := "(Ljava/lang/String;)V" } : Jvm.MethodName) prog_30_method_2_code (2 : Nat) (Option.none : Option Jvm.ClassFile.FieldType)) ∈ lw_all := lw_g (lw_at lw_m2 163 rfl) rfl
theorem q2198 : (Jvm.Cond.sameMethod "java/lang/Throwable" "java/lang/Throwable" "fillInStackTrace" "(I)Ljava/lang/Throwable;") ∈ lw_all := lw_g (lw_at lw_m9 159 rfl) rfl
theorem in_J0 : ∀ w ∈ wsJ00, w ∈ lw_all := lw_in wsJ00 [179, 181, 183, 185, 187] (by decide +kernel) (by decide +kernel)
/-! java/lang/Exception -/
set_option maxRecDepth 100000
def RJ1 : String := "java/lang/Exception"
abbrev cJ1_init : ByteArray := prog_19_method_5_code
def yJ1_init : MethodName := ⟨RJ1, "<init>", "(Ljava/lang/String;Ljava/lang/Throwable;ZZ)V"⟩
def dkwJ1_init_0 : List UInt8 := [42, 43, 44, 29, 21, 4, 183, 0, 16, 177]
abbrev dktJ1_init_0 : List UInt8 := dkwJ1_init_0 ++ []
theorem dksJ1_init_0 : cJ1_init.data.toList.drop 0 = dktJ1_init_0 := by decide +kernel
theorem dJ1_init_0 : decode cJ1_init 0 = .ok (.aload_n 0, 1) := dk_42 (dk_at dksJ1_init_0 0 rfl rfl)
theorem dJ1_init_1 : decode cJ1_init 1 = .ok (.aload_n 1, 1) := dk_43 (dk_at dksJ1_init_0 1 rfl rfl)
theorem dJ1_init_2 : decode cJ1_init 2 = .ok (.aload_n 2, 1) := dk_44 (dk_at dksJ1_init_0 2 rfl rfl)
theorem dJ1_init_3 : decode cJ1_init 3 = .ok (.iload_n 3, 1) := dk_29 (dk_at dksJ1_init_0 3 rfl rfl)
theorem dJ1_init_4 : decode cJ1_init 4 = .ok (.iload 4, 2) := dk_21 4 (dk_at dksJ1_init_0 4 rfl rfl)
theorem dJ1_init_6 : decode cJ1_init 6 = .ok (.invokespecial 16, 3) := dk_183 0 16 (dk_at dksJ1_init_0 6 rfl rfl)
theorem dJ1_init_9 : decode cJ1_init 9 = .ok (.return_, 1) := dk_177 (dk_at dksJ1_init_0 9 rfl rfl)
abbrev cJ1_init_2 : ByteArray := prog_19_method_2_code
def yJ1_init_2 : MethodName := ⟨RJ1, "<init>", "(Ljava/lang/String;)V"⟩
def dkwJ1_init_2_0 : List UInt8 := [42, 43, 183, 0, 7, 177]
abbrev dktJ1_init_2_0 : List UInt8 := dkwJ1_init_2_0 ++ []
theorem dksJ1_init_2_0 : cJ1_init_2.data.toList.drop 0 = dktJ1_init_2_0 := by decide +kernel
theorem dJ1_init_2_0 : decode cJ1_init_2 0 = .ok (.aload_n 0, 1) := dk_42 (dk_at dksJ1_init_2_0 0 rfl rfl)
theorem dJ1_init_2_1 : decode cJ1_init_2 1 = .ok (.aload_n 1, 1) := dk_43 (dk_at dksJ1_init_2_0 1 rfl rfl)
theorem dJ1_init_2_2 : decode cJ1_init_2 2 = .ok (.invokespecial 7, 3) := dk_183 0 7 (dk_at dksJ1_init_2_0 2 rfl rfl)
theorem dJ1_init_2_5 : decode cJ1_init_2 5 = .ok (.return_, 1) := dk_177 (dk_at dksJ1_init_2_0 5 rfl rfl)
theorem q123 : (Jvm.Cond.initialized "java/lang/Exception") ∈ lw_all := lw_g (lw_at lw_m1 4 rfl) rfl
theorem q172 : (Jvm.Cond.declares ({ cls := "java/lang/Exception", name := "<init>", desc := "()V" } : Jvm.MethodName)) ∈ lw_tbl := lw_at lw_m1 53 rfl
theorem q173 : (Jvm.Cond.declares ({ cls := "java/lang/Exception", name := "<init>", desc := "(Ljava/lang/String;)V" } : Jvm.MethodName)) ∈ lw_tbl := lw_at lw_m1 54 rfl
theorem q213 : (Jvm.Cond.instanceMethod ({ cls := "java/lang/Exception", name := "<init>", desc := "(Ljava/lang/String;Ljava/lang/Throwable;ZZ)V" } : Jvm.MethodName)) ∈ lw_all := lw_g (lw_at lw_m1 94 rfl) rfl
theorem q214 : (Jvm.Cond.code ({ cls := "java/lang/Exception", name := "<init>", desc := "(Ljava/lang/String;Ljava/lang/Throwable;ZZ)V" } : Jvm.MethodName) prog_19_method_5_code (5 : Nat) (Option.none : Option Jvm.ClassFile.FieldType)) ∈ lw_all := lw_g (lw_at lw_m1 95 rfl) rfl
theorem q215 : (Jvm.Cond.methodLink "java/lang/Exception" (16 : Nat) ({ cls := "java/lang/Throwable", name := "<init>", desc := "(Ljava/lang/String;Ljava/lang/Throwable;ZZ)V" } : Jvm.MethodName)) ∈ lw_all := lw_g (lw_at lw_m1 96 rfl) rfl
theorem q518 : (Jvm.Cond.instanceMethod ({ cls := "java/lang/Exception", name := "<init>", desc := "(Ljava/lang/String;)V" } : Jvm.MethodName)) ∈ lw_all := lw_g (lw_at lw_m2 159 rfl) rfl
theorem q519 : (Jvm.Cond.code ({ cls := "java/lang/Exception", name := "<init>", desc := "(Ljava/lang/String;)V" } : Jvm.MethodName) prog_19_method_2_code (2 : Nat) (Option.none : Option Jvm.ClassFile.FieldType)) ∈ lw_all := lw_g (lw_at lw_m2 160 rfl) rfl
theorem q520 : (Jvm.Cond.methodLink "java/lang/Exception" (7 : Nat) ({ cls := "java/lang/Throwable", name := "<init>", desc := "(Ljava/lang/String;)V" } : Jvm.MethodName)) ∈ lw_all := lw_g (lw_at lw_m2 161 rfl) rfl
/-! java/lang/RuntimeException -/
set_option maxRecDepth 100000
def RJ2 : String := "java/lang/RuntimeException"
abbrev cJ2_init : ByteArray := prog_25_method_2_code
def yJ2_init : MethodName := ⟨RJ2, "<init>", "(Ljava/lang/String;)V"⟩
def dkwJ2_init_0 : List UInt8 := [42, 43, 183, 0, 7, 177]
abbrev dktJ2_init_0 : List UInt8 := dkwJ2_init_0 ++ []
theorem dksJ2_init_0 : cJ2_init.data.toList.drop 0 = dktJ2_init_0 := by decide +kernel
theorem dJ2_init_0 : decode cJ2_init 0 = .ok (.aload_n 0, 1) := dk_42 (dk_at dksJ2_init_0 0 rfl rfl)
theorem dJ2_init_1 : decode cJ2_init 1 = .ok (.aload_n 1, 1) := dk_43 (dk_at dksJ2_init_0 1 rfl rfl)
theorem dJ2_init_2 : decode cJ2_init 2 = .ok (.invokespecial 7, 3) := dk_183 0 7 (dk_at dksJ2_init_0 2 rfl rfl)
theorem dJ2_init_5 : decode cJ2_init 5 = .ok (.return_, 1) := dk_177 (dk_at dksJ2_init_0 5 rfl rfl)
theorem q130 : (Jvm.Cond.initialized "java/lang/RuntimeException") ∈ lw_all := lw_g (lw_at lw_m1 11 rfl) rfl
theorem q515 : (Jvm.Cond.instanceMethod ({ cls := "java/lang/RuntimeException", name := "<init>", desc := "(Ljava/lang/String;)V" } : Jvm.MethodName)) ∈ lw_all := lw_g (lw_at lw_m2 156 rfl) rfl
theorem q516 : (Jvm.Cond.code ({ cls := "java/lang/RuntimeException", name := "<init>", desc := "(Ljava/lang/String;)V" } : Jvm.MethodName) prog_25_method_2_code (2 : Nat) (Option.none : Option Jvm.ClassFile.FieldType)) ∈ lw_all := lw_g (lw_at lw_m2 157 rfl) rfl
theorem q517 : (Jvm.Cond.methodLink "java/lang/RuntimeException" (7 : Nat) ({ cls := "java/lang/Exception", name := "<init>", desc := "(Ljava/lang/String;)V" } : Jvm.MethodName)) ∈ lw_all := lw_g (lw_at lw_m2 158 rfl) rfl
theorem q531 : (Jvm.Cond.declares ({ cls := "java/lang/RuntimeException", name := "<init>", desc := "()V" } : Jvm.MethodName)) ∈ lw_tbl := lw_at lw_m2 172 rfl
theorem q532 : (Jvm.Cond.declares ({ cls := "java/lang/RuntimeException", name := "<init>", desc := "(Ljava/lang/String;)V" } : Jvm.MethodName)) ∈ lw_tbl := lw_at lw_m2 173 rfl
/-! java/lang/NegativeArraySizeException -/
set_option maxRecDepth 100000
def RJ3 : String := "java/lang/NegativeArraySizeException"
def TJ3 : u_T := fun k => match k with
  | 0 => ("java/lang/Throwable", "backtrace", "Ljava/lang/Object;", false)
  | 1 => ("java/lang/Throwable", "detailMessage", "Ljava/lang/String;", false)
  | 2 => ("java/lang/Throwable", "cause", "Ljava/lang/Throwable;", false)
  | 3 => ("java/lang/Throwable", "stackTrace", "[Ljava/lang/StackTraceElement;", false)
  | 4 => ("java/lang/Throwable", "depth", "I", false)
  | _ => ("java/lang/Throwable", "suppressedExceptions", "Ljava/util/List;", false)
def tyJ3 : Nat → FieldType := fun k => match k with
  | 0 => .object "java/lang/Object"
  | 1 => .object "java/lang/String"
  | 2 => .object "java/lang/Throwable"
  | 3 => .array (.object "java/lang/StackTraceElement")
  | 4 => .int
  | _ => .object "java/util/List"
abbrev wsJ30 : List Cond := u_ws RJ3 TJ3 6
theorem nmJ3 : ∀ a, a < 6 → ∀ b, b < 6 → a ≠ b → (TJ3 a).2.1 ≠ (TJ3 b).2.1 := by decide +kernel
theorem tyJ3_ok : ∀ k, k < 6 → parseFieldDescriptor (TJ3 k).2.2.1 = some (tyJ3 k) := by decide +kernel
abbrev cJ3_init : ByteArray := prog_24_method_2_code
def yJ3_init : MethodName := ⟨RJ3, "<init>", "(Ljava/lang/String;)V"⟩
def dkwJ3_init_0 : List UInt8 := [42, 43, 183, 0, 7, 177]
abbrev dktJ3_init_0 : List UInt8 := dkwJ3_init_0 ++ []
theorem dksJ3_init_0 : cJ3_init.data.toList.drop 0 = dktJ3_init_0 := by decide +kernel
theorem dJ3_init_0 : decode cJ3_init 0 = .ok (.aload_n 0, 1) := dk_42 (dk_at dksJ3_init_0 0 rfl rfl)
theorem dJ3_init_1 : decode cJ3_init 1 = .ok (.aload_n 1, 1) := dk_43 (dk_at dksJ3_init_0 1 rfl rfl)
theorem dJ3_init_2 : decode cJ3_init 2 = .ok (.invokespecial 7, 3) := dk_183 0 7 (dk_at dksJ3_init_0 2 rfl rfl)
theorem dJ3_init_5 : decode cJ3_init 5 = .ok (.return_, 1) := dk_177 (dk_at dksJ3_init_0 5 rfl rfl)
theorem q131 : (Jvm.Cond.initialized "java/lang/NegativeArraySizeException") ∈ lw_all := lw_g (lw_at lw_m1 12 rfl) rfl
theorem q202 : (Jvm.Cond.selects "java/lang/NegativeArraySizeException" ({ cls := "java/lang/Throwable", name := "fillInStackTrace", desc := "()Ljava/lang/Throwable;" } : Jvm.MethodName) ({ cls := "java/lang/Throwable", name := "fillInStackTrace", desc := "()Ljava/lang/Throwable;" } : Jvm.MethodName)) ∈ lw_all := lw_g (lw_at lw_m1 83 rfl) rfl
theorem q511 : (Jvm.Cond.instantiable "java/lang/NegativeArraySizeException" (6 : Nat)) ∈ lw_all := lw_g (lw_at lw_m2 152 rfl) rfl
theorem q512 : (Jvm.Cond.instanceMethod ({ cls := "java/lang/NegativeArraySizeException", name := "<init>", desc := "(Ljava/lang/String;)V" } : Jvm.MethodName)) ∈ lw_all := lw_g (lw_at lw_m2 153 rfl) rfl
theorem q513 : (Jvm.Cond.code ({ cls := "java/lang/NegativeArraySizeException", name := "<init>", desc := "(Ljava/lang/String;)V" } : Jvm.MethodName) prog_24_method_2_code (2 : Nat) (Option.none : Option Jvm.ClassFile.FieldType)) ∈ lw_all := lw_g (lw_at lw_m2 154 rfl) rfl
theorem q514 : (Jvm.Cond.methodLink "java/lang/NegativeArraySizeException" (7 : Nat) ({ cls := "java/lang/RuntimeException", name := "<init>", desc := "(Ljava/lang/String;)V" } : Jvm.MethodName)) ∈ lw_all := lw_g (lw_at lw_m2 155 rfl) rfl
theorem q523 : (Jvm.Cond.lays "java/lang/NegativeArraySizeException" "java/lang/Throwable" "backtrace" "Ljava/lang/Object;") ∈ lw_all := lw_g (lw_at lw_m2 164 rfl) rfl
theorem q524 : (Jvm.Cond.lays "java/lang/NegativeArraySizeException" "java/lang/Throwable" "detailMessage" "Ljava/lang/String;") ∈ lw_all := lw_g (lw_at lw_m2 165 rfl) rfl
theorem q525 : (Jvm.Cond.lays "java/lang/NegativeArraySizeException" "java/lang/Throwable" "cause" "Ljava/lang/Throwable;") ∈ lw_all := lw_g (lw_at lw_m2 166 rfl) rfl
theorem q526 : (Jvm.Cond.lays "java/lang/NegativeArraySizeException" "java/lang/Throwable" "stackTrace" "[Ljava/lang/StackTraceElement;") ∈ lw_all := lw_g (lw_at lw_m2 167 rfl) rfl
theorem q527 : (Jvm.Cond.lays "java/lang/NegativeArraySizeException" "java/lang/Throwable" "depth" "I") ∈ lw_all := lw_g (lw_at lw_m2 168 rfl) rfl
theorem q528 : (Jvm.Cond.lays "java/lang/NegativeArraySizeException" "java/lang/Throwable" "suppressedExceptions" "Ljava/util/List;") ∈ lw_all := lw_g (lw_at lw_m2 169 rfl) rfl
theorem q529 : (Jvm.Cond.superclass "java/lang/NegativeArraySizeException" "java/lang/RuntimeException") ∈ lw_all := lw_g (lw_at lw_m2 170 rfl) rfl
theorem q530 : (Jvm.Cond.castable "java/lang/NegativeArraySizeException" "java/lang/NegativeArraySizeException") ∈ lw_tbl := lw_at lw_m2 171 rfl
theorem q533 : (Jvm.Cond.selects "java/lang/NegativeArraySizeException" ({ cls := "java/lang/Throwable", name := "fillInStackTrace", desc := "(I)Ljava/lang/Throwable;" } : Jvm.MethodName) ({ cls := "java/lang/Throwable", name := "fillInStackTrace", desc := "(I)Ljava/lang/Throwable;" } : Jvm.MethodName)) ∈ lw_all := lw_g (lw_at lw_m2 174 rfl) rfl
theorem in_J3 : ∀ w ∈ wsJ30, w ∈ lw_all := lw_in wsJ30 [523, 524, 525, 526, 527, 528] (by decide +kernel) (by decide +kernel)
/-! java/lang/String -/
set_option maxRecDepth 100000
def RJ4 : String := "java/lang/String"
def TJ4 : u_T := fun k => match k with
  | 0 => ("java/lang/String", "value", "[B", true)
  | _ => ("java/lang/String", "coder", "B", true)
def tyJ4 : Nat → FieldType := fun k => match k with
  | 0 => .array .byte
  | _ => .byte
abbrev wsJ40 : List Cond := u_ws RJ4 TJ4 2
theorem nmJ4 : ∀ a, a < 2 → ∀ b, b < 2 → a ≠ b → (TJ4 a).2.1 ≠ (TJ4 b).2.1 := by decide +kernel
theorem tyJ4_ok : ∀ k, k < 2 → parseFieldDescriptor (TJ4 k).2.2.1 = some (tyJ4 k) := by decide +kernel
abbrev cJ4_length : ByteArray := prog_26_method_54_code
def yJ4_length : MethodName := ⟨RJ4, "length", "()I"⟩
def dkwJ4_length_0 : List UInt8 := [42, 180, 0, 9, 190, 42, 182, 1, 79, 122, 172]
abbrev dktJ4_length_0 : List UInt8 := dkwJ4_length_0 ++ []
theorem dksJ4_length_0 : cJ4_length.data.toList.drop 0 = dktJ4_length_0 := by decide +kernel
theorem dJ4_length_0 : decode cJ4_length 0 = .ok (.aload_n 0, 1) := dk_42 (dk_at dksJ4_length_0 0 rfl rfl)
theorem dJ4_length_1 : decode cJ4_length 1 = .ok (.getfield 9, 3) := dk_180 0 9 (dk_at dksJ4_length_0 1 rfl rfl)
theorem dJ4_length_4 : decode cJ4_length 4 = .ok (.arraylength, 1) := dk_190 (dk_at dksJ4_length_0 4 rfl rfl)
theorem dJ4_length_5 : decode cJ4_length 5 = .ok (.aload_n 0, 1) := dk_42 (dk_at dksJ4_length_0 5 rfl rfl)
theorem dJ4_length_6 : decode cJ4_length 6 = .ok (.invokevirtual 335, 3) := dk_182 1 79 (dk_at dksJ4_length_0 6 rfl rfl)
theorem dJ4_length_9 : decode cJ4_length 9 = .ok (.ishr, 1) := dk_122 (dk_at dksJ4_length_0 9 rfl rfl)
theorem dJ4_length_10 : decode cJ4_length 10 = .ok (.ireturn, 1) := dk_172 (dk_at dksJ4_length_0 10 rfl rfl)
abbrev cJ4_coder : ByteArray := prog_26_method_152_code
def yJ4_coder : MethodName := ⟨RJ4, "coder", "()B"⟩
def dkwJ4_coder_0 : List UInt8 := [178, 0, 38, 153, 0, 10, 42, 180, 0, 15, 167, 0, 4, 4, 172]
abbrev dktJ4_coder_0 : List UInt8 := dkwJ4_coder_0 ++ []
theorem dksJ4_coder_0 : cJ4_coder.data.toList.drop 0 = dktJ4_coder_0 := by decide +kernel
theorem dJ4_coder_0 : decode cJ4_coder 0 = .ok (.getstatic 38, 3) := dk_178 0 38 (dk_at dksJ4_coder_0 0 rfl rfl)
theorem dJ4_coder_3 : decode cJ4_coder 3 = .ok (.ifCond .eq 10, 3) := dk_153 0 10 (dk_at dksJ4_coder_0 3 rfl rfl)
theorem dJ4_coder_6 : decode cJ4_coder 6 = .ok (.aload_n 0, 1) := dk_42 (dk_at dksJ4_coder_0 6 rfl rfl)
theorem dJ4_coder_7 : decode cJ4_coder 7 = .ok (.getfield 15, 3) := dk_180 0 15 (dk_at dksJ4_coder_0 7 rfl rfl)
theorem dJ4_coder_10 : decode cJ4_coder 10 = .ok (.goto 4, 3) := dk_167 0 4 (dk_at dksJ4_coder_0 10 rfl rfl)
theorem dJ4_coder_13 : decode cJ4_coder 13 = .ok (.iconst 1, 1) := dk_4 (dk_at dksJ4_coder_0 13 rfl rfl)
theorem dJ4_coder_14 : decode cJ4_coder 14 = .ok (.ireturn, 1) := dk_172 (dk_at dksJ4_coder_0 14 rfl rfl)
abbrev cJ4_charAt : ByteArray := prog_26_method_56_code
def yJ4_charAt : MethodName := ⟨RJ4, "charAt", "(I)C"⟩
def dkwJ4_charAt_1 : List UInt8 := [172]
abbrev dktJ4_charAt_1 : List UInt8 := dkwJ4_charAt_1 ++ []
def dkwJ4_charAt_0 : List UInt8 := [42, 182, 1, 236, 153, 0, 12, 42, 180, 0, 9, 27, 184, 1, 239, 172, 42, 180, 0, 9, 27, 184, 1, 242]
abbrev dktJ4_charAt_0 : List UInt8 := dkwJ4_charAt_0 ++ dktJ4_charAt_1
theorem dksJ4_charAt_0 : cJ4_charAt.data.toList.drop 0 = dktJ4_charAt_0 := by decide +kernel
theorem dksJ4_charAt_1 : cJ4_charAt.data.toList.drop 24 = dktJ4_charAt_1 := dk_seg dksJ4_charAt_0 24 rfl rfl
theorem dJ4_charAt_0 : decode cJ4_charAt 0 = .ok (.aload_n 0, 1) := dk_42 (dk_at dksJ4_charAt_0 0 rfl rfl)
theorem dJ4_charAt_1 : decode cJ4_charAt 1 = .ok (.invokevirtual 492, 3) := dk_182 1 236 (dk_at dksJ4_charAt_0 1 rfl rfl)
theorem dJ4_charAt_4 : decode cJ4_charAt 4 = .ok (.ifCond .eq 12, 3) := dk_153 0 12 (dk_at dksJ4_charAt_0 4 rfl rfl)
theorem dJ4_charAt_7 : decode cJ4_charAt 7 = .ok (.aload_n 0, 1) := dk_42 (dk_at dksJ4_charAt_0 7 rfl rfl)
theorem dJ4_charAt_8 : decode cJ4_charAt 8 = .ok (.getfield 9, 3) := dk_180 0 9 (dk_at dksJ4_charAt_0 8 rfl rfl)
theorem dJ4_charAt_11 : decode cJ4_charAt 11 = .ok (.iload_n 1, 1) := dk_27 (dk_at dksJ4_charAt_0 11 rfl rfl)
theorem dJ4_charAt_12 : decode cJ4_charAt 12 = .ok (.invokestatic 495, 3) := dk_184 1 239 (dk_at dksJ4_charAt_0 12 rfl rfl)
theorem dJ4_charAt_15 : decode cJ4_charAt 15 = .ok (.ireturn, 1) := dk_172 (dk_at dksJ4_charAt_0 15 rfl rfl)
theorem dJ4_charAt_16 : decode cJ4_charAt 16 = .ok (.aload_n 0, 1) := dk_42 (dk_at dksJ4_charAt_0 16 rfl rfl)
theorem dJ4_charAt_17 : decode cJ4_charAt 17 = .ok (.getfield 9, 3) := dk_180 0 9 (dk_at dksJ4_charAt_0 17 rfl rfl)
theorem dJ4_charAt_20 : decode cJ4_charAt 20 = .ok (.iload_n 1, 1) := dk_27 (dk_at dksJ4_charAt_0 20 rfl rfl)
theorem dJ4_charAt_21 : decode cJ4_charAt 21 = .ok (.invokestatic 498, 3) := dk_184 1 242 (dk_at dksJ4_charAt_0 21 rfl rfl)
theorem dJ4_charAt_24 : decode cJ4_charAt 24 = .ok (.ireturn, 1) := dk_172 (dk_at dksJ4_charAt_1 0 rfl rfl)
abbrev cJ4_isLatin1 : ByteArray := prog_26_method_154_code
def yJ4_isLatin1 : MethodName := ⟨RJ4, "isLatin1", "()Z"⟩
def dkwJ4_isLatin1_0 : List UInt8 := [178, 0, 38, 153, 0, 14, 42, 180, 0, 15, 154, 0, 7, 4, 167, 0, 4, 3, 172]
abbrev dktJ4_isLatin1_0 : List UInt8 := dkwJ4_isLatin1_0 ++ []
theorem dksJ4_isLatin1_0 : cJ4_isLatin1.data.toList.drop 0 = dktJ4_isLatin1_0 := by decide +kernel
theorem dJ4_isLatin1_0 : decode cJ4_isLatin1 0 = .ok (.getstatic 38, 3) := dk_178 0 38 (dk_at dksJ4_isLatin1_0 0 rfl rfl)
theorem dJ4_isLatin1_3 : decode cJ4_isLatin1 3 = .ok (.ifCond .eq 14, 3) := dk_153 0 14 (dk_at dksJ4_isLatin1_0 3 rfl rfl)
theorem dJ4_isLatin1_6 : decode cJ4_isLatin1 6 = .ok (.aload_n 0, 1) := dk_42 (dk_at dksJ4_isLatin1_0 6 rfl rfl)
theorem dJ4_isLatin1_7 : decode cJ4_isLatin1 7 = .ok (.getfield 15, 3) := dk_180 0 15 (dk_at dksJ4_isLatin1_0 7 rfl rfl)
theorem dJ4_isLatin1_10 : decode cJ4_isLatin1 10 = .ok (.ifCond .ne 7, 3) := dk_154 0 7 (dk_at dksJ4_isLatin1_0 10 rfl rfl)
theorem dJ4_isLatin1_13 : decode cJ4_isLatin1 13 = .ok (.iconst 1, 1) := dk_4 (dk_at dksJ4_isLatin1_0 13 rfl rfl)
theorem dJ4_isLatin1_14 : decode cJ4_isLatin1 14 = .ok (.goto 4, 3) := dk_167 0 4 (dk_at dksJ4_isLatin1_0 14 rfl rfl)
theorem dJ4_isLatin1_17 : decode cJ4_isLatin1 17 = .ok (.iconst 0, 1) := dk_3 (dk_at dksJ4_isLatin1_0 17 rfl rfl)
theorem dJ4_isLatin1_18 : decode cJ4_isLatin1 18 = .ok (.ireturn, 1) := dk_172 (dk_at dksJ4_isLatin1_0 18 rfl rfl)
abbrev cJ4_checkIndex : ByteArray := prog_26_method_155_code
def yJ4_checkIndex : MethodName := ⟨RJ4, "checkIndex", "(II)V"⟩
def dkwJ4_checkIndex_0 : List UInt8 := [26, 27, 178, 4, 29, 184, 4, 35, 87, 177]
abbrev dktJ4_checkIndex_0 : List UInt8 := dkwJ4_checkIndex_0 ++ []
theorem dksJ4_checkIndex_0 : cJ4_checkIndex.data.toList.drop 0 = dktJ4_checkIndex_0 := by decide +kernel
theorem dJ4_checkIndex_0 : decode cJ4_checkIndex 0 = .ok (.iload_n 0, 1) := dk_26 (dk_at dksJ4_checkIndex_0 0 rfl rfl)
theorem dJ4_checkIndex_1 : decode cJ4_checkIndex 1 = .ok (.iload_n 1, 1) := dk_27 (dk_at dksJ4_checkIndex_0 1 rfl rfl)
theorem dJ4_checkIndex_2 : decode cJ4_checkIndex 2 = .ok (.getstatic 1053, 3) := dk_178 4 29 (dk_at dksJ4_checkIndex_0 2 rfl rfl)
theorem dJ4_checkIndex_5 : decode cJ4_checkIndex 5 = .ok (.invokestatic 1059, 3) := dk_184 4 35 (dk_at dksJ4_checkIndex_0 5 rfl rfl)
theorem dJ4_checkIndex_8 : decode cJ4_checkIndex 8 = .ok (.pop, 1) := dk_87 (dk_at dksJ4_checkIndex_0 8 rfl rfl)
theorem dJ4_checkIndex_9 : decode cJ4_checkIndex 9 = .ok (.return_, 1) := dk_177 (dk_at dksJ4_checkIndex_0 9 rfl rfl)
theorem q132 : (Jvm.Cond.initialized "java/lang/String") ∈ lw_all := lw_g (lw_at lw_m1 13 rfl) rfl
theorem q534 : (Jvm.Cond.instantiable "java/lang/String" (4 : Nat)) ∈ lw_all := lw_g (lw_at lw_m2 175 rfl) rfl
theorem q535 : (Jvm.Cond.laysFinal "java/lang/String" "java/lang/String" "value" "[B") ∈ lw_all := lw_g (lw_at lw_m2 176 rfl) rfl
theorem q536 : (Jvm.Cond.soleField "java/lang/String" "value") ∈ lw_all := lw_g (lw_at lw_m2 177 rfl) rfl
theorem q537 : (Jvm.Cond.laysFinal "java/lang/String" "java/lang/String" "coder" "B") ∈ lw_all := lw_g (lw_at lw_m2 178 rfl) rfl
theorem q538 : (Jvm.Cond.soleField "java/lang/String" "coder") ∈ lw_all := lw_g (lw_at lw_m2 179 rfl) rfl
theorem q693 : (Jvm.Cond.instanceMethod ({ cls := "java/lang/String", name := "length", desc := "()I" } : Jvm.MethodName)) ∈ lw_all := lw_g (lw_at lw_m3 94 rfl) rfl
theorem q694 : (Jvm.Cond.selects "java/lang/String" ({ cls := "java/lang/String", name := "length", desc := "()I" } : Jvm.MethodName) ({ cls := "java/lang/String", name := "length", desc := "()I" } : Jvm.MethodName)) ∈ lw_all := lw_g (lw_at lw_m3 95 rfl) rfl
theorem q695 : (Jvm.Cond.code ({ cls := "java/lang/String", name := "length", desc := "()I" } : Jvm.MethodName) prog_26_method_54_code (1 : Nat) (Option.some Jvm.ClassFile.FieldType.int)) ∈ lw_all := lw_g (lw_at lw_m3 96 rfl) rfl
theorem q696 : (Jvm.Cond.methodLink "java/lang/String" (335 : Nat) ({ cls := "java/lang/String", name := "coder", desc := "()B" } : Jvm.MethodName)) ∈ lw_all := lw_g (lw_at lw_m3 97 rfl) rfl
theorem q697 : (Jvm.Cond.instanceMethod ({ cls := "java/lang/String", name := "coder", desc := "()B" } : Jvm.MethodName)) ∈ lw_all := lw_g (lw_at lw_m3 98 rfl) rfl
theorem q698 : (Jvm.Cond.selects "java/lang/String" ({ cls := "java/lang/String", name := "coder", desc := "()B" } : Jvm.MethodName) ({ cls := "java/lang/String", name := "coder", desc := "()B" } : Jvm.MethodName)) ∈ lw_all := lw_g (lw_at lw_m3 99 rfl) rfl
theorem q699 : (Jvm.Cond.code ({ cls := "java/lang/String", name := "coder", desc := "()B" } : Jvm.MethodName) prog_26_method_152_code (1 : Nat) (Option.some Jvm.ClassFile.FieldType.byte)) ∈ lw_all := lw_g (lw_at lw_m3 100 rfl) rfl
theorem q700 : (Jvm.Cond.fieldLink "java/lang/String" (38 : Nat) "java/lang/String" "COMPACT_STRINGS" "Z") ∈ lw_all := lw_g (lw_at lw_m3 101 rfl) rfl
theorem q701 : (Jvm.Cond.laysStatic "java/lang/String" "COMPACT_STRINGS" "Z") ∈ lw_tbl := lw_at lw_m3 102 rfl
theorem q703 : (Jvm.Cond.instanceMethod ({ cls := "java/lang/String", name := "charAt", desc := "(I)C" } : Jvm.MethodName)) ∈ lw_all := lw_g (lw_at lw_m3 104 rfl) rfl
theorem q704 : (Jvm.Cond.selects "java/lang/String" ({ cls := "java/lang/String", name := "charAt", desc := "(I)C" } : Jvm.MethodName) ({ cls := "java/lang/String", name := "charAt", desc := "(I)C" } : Jvm.MethodName)) ∈ lw_all := lw_g (lw_at lw_m3 105 rfl) rfl
theorem q705 : (Jvm.Cond.code ({ cls := "java/lang/String", name := "charAt", desc := "(I)C" } : Jvm.MethodName) prog_26_method_56_code (2 : Nat) (Option.some Jvm.ClassFile.FieldType.char)) ∈ lw_all := lw_g (lw_at lw_m3 106 rfl) rfl
theorem q706 : (Jvm.Cond.methodLink "java/lang/String" (492 : Nat) ({ cls := "java/lang/String", name := "isLatin1", desc := "()Z" } : Jvm.MethodName)) ∈ lw_all := lw_g (lw_at lw_m3 107 rfl) rfl
theorem q707 : (Jvm.Cond.instanceMethod ({ cls := "java/lang/String", name := "isLatin1", desc := "()Z" } : Jvm.MethodName)) ∈ lw_all := lw_g (lw_at lw_m3 108 rfl) rfl
theorem q708 : (Jvm.Cond.selects "java/lang/String" ({ cls := "java/lang/String", name := "isLatin1", desc := "()Z" } : Jvm.MethodName) ({ cls := "java/lang/String", name := "isLatin1", desc := "()Z" } : Jvm.MethodName)) ∈ lw_all := lw_g (lw_at lw_m3 109 rfl) rfl
theorem q709 : (Jvm.Cond.code ({ cls := "java/lang/String", name := "isLatin1", desc := "()Z" } : Jvm.MethodName) prog_26_method_154_code (1 : Nat) (Option.some Jvm.ClassFile.FieldType.boolean)) ∈ lw_all := lw_g (lw_at lw_m3 110 rfl) rfl
theorem q710 : (Jvm.Cond.methodLink "java/lang/String" (495 : Nat) ({ cls := "java/lang/StringLatin1", name := "charAt", desc := "([BI)C" } : Jvm.MethodName)) ∈ lw_all := lw_g (lw_at lw_m3 111 rfl) rfl
theorem q714 : (Jvm.Cond.static ({ cls := "java/lang/String", name := "checkIndex", desc := "(II)V" } : Jvm.MethodName)) ∈ lw_all := lw_g (lw_at lw_m3 115 rfl) rfl
theorem q715 : (Jvm.Cond.code ({ cls := "java/lang/String", name := "checkIndex", desc := "(II)V" } : Jvm.MethodName) prog_26_method_155_code (2 : Nat) (Option.none : Option Jvm.ClassFile.FieldType)) ∈ lw_all := lw_g (lw_at lw_m3 116 rfl) rfl
theorem q716 : (Jvm.Cond.fieldLink "java/lang/String" (1053 : Nat) "jdk/internal/util/Preconditions" "SIOOBE_FORMATTER" "Ljava/util/function/BiFunction;") ∈ lw_all := lw_g (lw_at lw_m3 117 rfl) rfl
theorem q718 : (Jvm.Cond.methodLink "java/lang/String" (1059 : Nat) ({ cls := "jdk/internal/util/Preconditions", name := "checkIndex", desc := "(IILjava/util/function/BiFunction;)I" } : Jvm.MethodName)) ∈ lw_all := lw_g (lw_at lw_m3 119 rfl) rfl
theorem q721 : (Jvm.Cond.methodLink "java/lang/String" (498 : Nat) ({ cls := "java/lang/StringUTF16", name := "charAt", desc := "([BI)C" } : Jvm.MethodName)) ∈ lw_all := lw_g (lw_at lw_m3 122 rfl) rfl
theorem q2205 : (Jvm.Cond.fieldLink "java/lang/String" (9 : Nat) "java/lang/String" "value" "[B") ∈ lw_all := lw_g (lw_at lw_m9 166 rfl) rfl
theorem q2206 : (Jvm.Cond.fieldLink "java/lang/String" (15 : Nat) "java/lang/String" "coder" "B") ∈ lw_all := lw_g (lw_at lw_m9 167 rfl) rfl
theorem in_J4 : ∀ w ∈ wsJ40, w ∈ lw_all := lw_in wsJ40 [535, 537] (by decide +kernel) (by decide +kernel)
/-! java/lang/IndexOutOfBoundsException -/
set_option maxRecDepth 100000
def RJ5 : String := "java/lang/IndexOutOfBoundsException"
abbrev cJ5_init : ByteArray := prog_20_method_2_code
def yJ5_init : MethodName := ⟨RJ5, "<init>", "(Ljava/lang/String;)V"⟩
def dkwJ5_init_0 : List UInt8 := [42, 43, 183, 0, 7, 177]
abbrev dktJ5_init_0 : List UInt8 := dkwJ5_init_0 ++ []
theorem dksJ5_init_0 : cJ5_init.data.toList.drop 0 = dktJ5_init_0 := by decide +kernel
theorem dJ5_init_0 : decode cJ5_init 0 = .ok (.aload_n 0, 1) := dk_42 (dk_at dksJ5_init_0 0 rfl rfl)
theorem dJ5_init_1 : decode cJ5_init 1 = .ok (.aload_n 1, 1) := dk_43 (dk_at dksJ5_init_0 1 rfl rfl)
theorem dJ5_init_2 : decode cJ5_init 2 = .ok (.invokespecial 7, 3) := dk_183 0 7 (dk_at dksJ5_init_0 2 rfl rfl)
theorem dJ5_init_5 : decode cJ5_init 5 = .ok (.return_, 1) := dk_177 (dk_at dksJ5_init_0 5 rfl rfl)
theorem q133 : (Jvm.Cond.initialized "java/lang/IndexOutOfBoundsException") ∈ lw_all := lw_g (lw_at lw_m1 14 rfl) rfl
theorem q565 : (Jvm.Cond.instanceMethod ({ cls := "java/lang/IndexOutOfBoundsException", name := "<init>", desc := "(Ljava/lang/String;)V" } : Jvm.MethodName)) ∈ lw_all := lw_g (lw_at lw_m2 206 rfl) rfl
theorem q566 : (Jvm.Cond.code ({ cls := "java/lang/IndexOutOfBoundsException", name := "<init>", desc := "(Ljava/lang/String;)V" } : Jvm.MethodName) prog_20_method_2_code (2 : Nat) (Option.none : Option Jvm.ClassFile.FieldType)) ∈ lw_all := lw_g (lw_at lw_m2 207 rfl) rfl
theorem q567 : (Jvm.Cond.methodLink "java/lang/IndexOutOfBoundsException" (7 : Nat) ({ cls := "java/lang/RuntimeException", name := "<init>", desc := "(Ljava/lang/String;)V" } : Jvm.MethodName)) ∈ lw_all := lw_g (lw_at lw_m2 208 rfl) rfl
theorem q576 : (Jvm.Cond.declares ({ cls := "java/lang/IndexOutOfBoundsException", name := "<init>", desc := "()V" } : Jvm.MethodName)) ∈ lw_tbl := lw_at lw_m2 217 rfl
theorem q577 : (Jvm.Cond.declares ({ cls := "java/lang/IndexOutOfBoundsException", name := "<init>", desc := "(Ljava/lang/String;)V" } : Jvm.MethodName)) ∈ lw_tbl := lw_at lw_m2 218 rfl
/-! java/lang/ArrayIndexOutOfBoundsException -/
set_option maxRecDepth 100000
def RJ6 : String := "java/lang/ArrayIndexOutOfBoundsException"
def TJ6 : u_T := fun k => match k with
  | 0 => ("java/lang/Throwable", "backtrace", "Ljava/lang/Object;", false)
  | 1 => ("java/lang/Throwable", "detailMessage", "Ljava/lang/String;", false)
  | 2 => ("java/lang/Throwable", "cause", "Ljava/lang/Throwable;", false)
  | 3 => ("java/lang/Throwable", "stackTrace", "[Ljava/lang/StackTraceElement;", false)
  | 4 => ("java/lang/Throwable", "depth", "I", false)
  | _ => ("java/lang/Throwable", "suppressedExceptions", "Ljava/util/List;", false)
def tyJ6 : Nat → FieldType := fun k => match k with
  | 0 => .object "java/lang/Object"
  | 1 => .object "java/lang/String"
  | 2 => .object "java/lang/Throwable"
  | 3 => .array (.object "java/lang/StackTraceElement")
  | 4 => .int
  | _ => .object "java/util/List"
abbrev wsJ60 : List Cond := u_ws RJ6 TJ6 6
theorem nmJ6 : ∀ a, a < 6 → ∀ b, b < 6 → a ≠ b → (TJ6 a).2.1 ≠ (TJ6 b).2.1 := by decide +kernel
theorem tyJ6_ok : ∀ k, k < 6 → parseFieldDescriptor (TJ6 k).2.2.1 = some (tyJ6 k) := by decide +kernel
abbrev cJ6_init : ByteArray := prog_18_method_2_code
def yJ6_init : MethodName := ⟨RJ6, "<init>", "(Ljava/lang/String;)V"⟩
def dkwJ6_init_0 : List UInt8 := [42, 43, 183, 0, 7, 177]
abbrev dktJ6_init_0 : List UInt8 := dkwJ6_init_0 ++ []
theorem dksJ6_init_0 : cJ6_init.data.toList.drop 0 = dktJ6_init_0 := by decide +kernel
theorem dJ6_init_0 : decode cJ6_init 0 = .ok (.aload_n 0, 1) := dk_42 (dk_at dksJ6_init_0 0 rfl rfl)
theorem dJ6_init_1 : decode cJ6_init 1 = .ok (.aload_n 1, 1) := dk_43 (dk_at dksJ6_init_0 1 rfl rfl)
theorem dJ6_init_2 : decode cJ6_init 2 = .ok (.invokespecial 7, 3) := dk_183 0 7 (dk_at dksJ6_init_0 2 rfl rfl)
theorem dJ6_init_5 : decode cJ6_init 5 = .ok (.return_, 1) := dk_177 (dk_at dksJ6_init_0 5 rfl rfl)
theorem q134 : (Jvm.Cond.initialized "java/lang/ArrayIndexOutOfBoundsException") ∈ lw_all := lw_g (lw_at lw_m1 15 rfl) rfl
theorem q201 : (Jvm.Cond.selects "java/lang/ArrayIndexOutOfBoundsException" ({ cls := "java/lang/Throwable", name := "fillInStackTrace", desc := "()Ljava/lang/Throwable;" } : Jvm.MethodName) ({ cls := "java/lang/Throwable", name := "fillInStackTrace", desc := "()Ljava/lang/Throwable;" } : Jvm.MethodName)) ∈ lw_all := lw_g (lw_at lw_m1 82 rfl) rfl
theorem q561 : (Jvm.Cond.instantiable "java/lang/ArrayIndexOutOfBoundsException" (6 : Nat)) ∈ lw_all := lw_g (lw_at lw_m2 202 rfl) rfl
theorem q562 : (Jvm.Cond.instanceMethod ({ cls := "java/lang/ArrayIndexOutOfBoundsException", name := "<init>", desc := "(Ljava/lang/String;)V" } : Jvm.MethodName)) ∈ lw_all := lw_g (lw_at lw_m2 203 rfl) rfl
theorem q563 : (Jvm.Cond.code ({ cls := "java/lang/ArrayIndexOutOfBoundsException", name := "<init>", desc := "(Ljava/lang/String;)V" } : Jvm.MethodName) prog_18_method_2_code (2 : Nat) (Option.none : Option Jvm.ClassFile.FieldType)) ∈ lw_all := lw_g (lw_at lw_m2 204 rfl) rfl
theorem q564 : (Jvm.Cond.methodLink "java/lang/ArrayIndexOutOfBoundsException" (7 : Nat) ({ cls := "java/lang/IndexOutOfBoundsException", name := "<init>", desc := "(Ljava/lang/String;)V" } : Jvm.MethodName)) ∈ lw_all := lw_g (lw_at lw_m2 205 rfl) rfl
theorem q568 : (Jvm.Cond.lays "java/lang/ArrayIndexOutOfBoundsException" "java/lang/Throwable" "backtrace" "Ljava/lang/Object;") ∈ lw_all := lw_g (lw_at lw_m2 209 rfl) rfl
theorem q569 : (Jvm.Cond.lays "java/lang/ArrayIndexOutOfBoundsException" "java/lang/Throwable" "detailMessage" "Ljava/lang/String;") ∈ lw_all := lw_g (lw_at lw_m2 210 rfl) rfl
theorem q570 : (Jvm.Cond.lays "java/lang/ArrayIndexOutOfBoundsException" "java/lang/Throwable" "cause" "Ljava/lang/Throwable;") ∈ lw_all := lw_g (lw_at lw_m2 211 rfl) rfl
theorem q571 : (Jvm.Cond.lays "java/lang/ArrayIndexOutOfBoundsException" "java/lang/Throwable" "stackTrace" "[Ljava/lang/StackTraceElement;") ∈ lw_all := lw_g (lw_at lw_m2 212 rfl) rfl
theorem q572 : (Jvm.Cond.lays "java/lang/ArrayIndexOutOfBoundsException" "java/lang/Throwable" "depth" "I") ∈ lw_all := lw_g (lw_at lw_m2 213 rfl) rfl
theorem q573 : (Jvm.Cond.lays "java/lang/ArrayIndexOutOfBoundsException" "java/lang/Throwable" "suppressedExceptions" "Ljava/util/List;") ∈ lw_all := lw_g (lw_at lw_m2 214 rfl) rfl
theorem q574 : (Jvm.Cond.superclass "java/lang/ArrayIndexOutOfBoundsException" "java/lang/IndexOutOfBoundsException") ∈ lw_all := lw_g (lw_at lw_m2 215 rfl) rfl
theorem q575 : (Jvm.Cond.castable "java/lang/ArrayIndexOutOfBoundsException" "java/lang/ArrayIndexOutOfBoundsException") ∈ lw_tbl := lw_at lw_m2 216 rfl
theorem q578 : (Jvm.Cond.selects "java/lang/ArrayIndexOutOfBoundsException" ({ cls := "java/lang/Throwable", name := "fillInStackTrace", desc := "(I)Ljava/lang/Throwable;" } : Jvm.MethodName) ({ cls := "java/lang/Throwable", name := "fillInStackTrace", desc := "(I)Ljava/lang/Throwable;" } : Jvm.MethodName)) ∈ lw_all := lw_g (lw_at lw_m2 219 rfl) rfl
theorem q2199 : (Jvm.Cond.castable "java/lang/ArrayIndexOutOfBoundsException" "java/lang/IndexOutOfBoundsException") ∈ lw_tbl := lw_at lw_m9 160 rfl
theorem in_J6 : ∀ w ∈ wsJ60, w ∈ lw_all := lw_in wsJ60 [568, 569, 570, 571, 572, 573] (by decide +kernel) (by decide +kernel)
/-! java/lang/StringLatin1 -/
set_option maxRecDepth 100000
def RJ7 : String := "java/lang/StringLatin1"
abbrev cJ7_charAt : ByteArray := prog_27_method_2_code
def yJ7_charAt : MethodName := ⟨RJ7, "charAt", "([BI)C"⟩
def dkwJ7_charAt_0 : List UInt8 := [27, 42, 190, 184, 0, 9, 42, 27, 51, 17, 0, 255, 126, 146, 172]
abbrev dktJ7_charAt_0 : List UInt8 := dkwJ7_charAt_0 ++ []
theorem dksJ7_charAt_0 : cJ7_charAt.data.toList.drop 0 = dktJ7_charAt_0 := by decide +kernel
theorem dJ7_charAt_0 : decode cJ7_charAt 0 = .ok (.iload_n 1, 1) := dk_27 (dk_at dksJ7_charAt_0 0 rfl rfl)
theorem dJ7_charAt_1 : decode cJ7_charAt 1 = .ok (.aload_n 0, 1) := dk_42 (dk_at dksJ7_charAt_0 1 rfl rfl)
theorem dJ7_charAt_2 : decode cJ7_charAt 2 = .ok (.arraylength, 1) := dk_190 (dk_at dksJ7_charAt_0 2 rfl rfl)
theorem dJ7_charAt_3 : decode cJ7_charAt 3 = .ok (.invokestatic 9, 3) := dk_184 0 9 (dk_at dksJ7_charAt_0 3 rfl rfl)
theorem dJ7_charAt_6 : decode cJ7_charAt 6 = .ok (.aload_n 0, 1) := dk_42 (dk_at dksJ7_charAt_0 6 rfl rfl)
theorem dJ7_charAt_7 : decode cJ7_charAt 7 = .ok (.iload_n 1, 1) := dk_27 (dk_at dksJ7_charAt_0 7 rfl rfl)
theorem dJ7_charAt_8 : decode cJ7_charAt 8 = .ok (.baload, 1) := dk_51 (dk_at dksJ7_charAt_0 8 rfl rfl)
theorem dJ7_charAt_9 : decode cJ7_charAt 9 = .ok (.sipush 255, 3) := dk_17 0 255 (dk_at dksJ7_charAt_0 9 rfl rfl)
theorem dJ7_charAt_12 : decode cJ7_charAt 12 = .ok (.iand, 1) := dk_126 (dk_at dksJ7_charAt_0 12 rfl rfl)
theorem dJ7_charAt_13 : decode cJ7_charAt 13 = .ok (.i2c, 1) := dk_146 (dk_at dksJ7_charAt_0 13 rfl rfl)
theorem dJ7_charAt_14 : decode cJ7_charAt 14 = .ok (.ireturn, 1) := dk_172 (dk_at dksJ7_charAt_0 14 rfl rfl)
theorem q137 : (Jvm.Cond.initialized "java/lang/StringLatin1") ∈ lw_all := lw_g (lw_at lw_m1 18 rfl) rfl
theorem q711 : (Jvm.Cond.static ({ cls := "java/lang/StringLatin1", name := "charAt", desc := "([BI)C" } : Jvm.MethodName)) ∈ lw_all := lw_g (lw_at lw_m3 112 rfl) rfl
theorem q712 : (Jvm.Cond.code ({ cls := "java/lang/StringLatin1", name := "charAt", desc := "([BI)C" } : Jvm.MethodName) prog_27_method_2_code (2 : Nat) (Option.some Jvm.ClassFile.FieldType.char)) ∈ lw_all := lw_g (lw_at lw_m3 113 rfl) rfl
theorem q713 : (Jvm.Cond.methodLink "java/lang/StringLatin1" (9 : Nat) ({ cls := "java/lang/String", name := "checkIndex", desc := "(II)V" } : Jvm.MethodName)) ∈ lw_all := lw_g (lw_at lw_m3 114 rfl) rfl
/-! jdk/internal/util/Preconditions -/
set_option maxRecDepth 100000
def RJ8 : String := "jdk/internal/util/Preconditions"
abbrev cJ8_checkIndex : ByteArray := prog_31_method_11_code
def yJ8_checkIndex : MethodName := ⟨RJ8, "checkIndex", "(IILjava/util/function/BiFunction;)I"⟩
def dkwJ8_checkIndex_0 : List UInt8 := [26, 155, 0, 8, 26, 27, 161, 0, 10, 44, 26, 27, 184, 0, 95, 191, 26, 172]
abbrev dktJ8_checkIndex_0 : List UInt8 := dkwJ8_checkIndex_0 ++ []
theorem dksJ8_checkIndex_0 : cJ8_checkIndex.data.toList.drop 0 = dktJ8_checkIndex_0 := by decide +kernel
theorem dJ8_checkIndex_0 : decode cJ8_checkIndex 0 = .ok (.iload_n 0, 1) := dk_26 (dk_at dksJ8_checkIndex_0 0 rfl rfl)
theorem dJ8_checkIndex_1 : decode cJ8_checkIndex 1 = .ok (.ifCond .lt 8, 3) := dk_155 0 8 (dk_at dksJ8_checkIndex_0 1 rfl rfl)
theorem dJ8_checkIndex_4 : decode cJ8_checkIndex 4 = .ok (.iload_n 0, 1) := dk_26 (dk_at dksJ8_checkIndex_0 4 rfl rfl)
theorem dJ8_checkIndex_5 : decode cJ8_checkIndex 5 = .ok (.iload_n 1, 1) := dk_27 (dk_at dksJ8_checkIndex_0 5 rfl rfl)
theorem dJ8_checkIndex_6 : decode cJ8_checkIndex 6 = .ok (.if_icmp .lt 10, 3) := dk_161 0 10 (dk_at dksJ8_checkIndex_0 6 rfl rfl)
theorem dJ8_checkIndex_9 : decode cJ8_checkIndex 9 = .ok (.aload_n 2, 1) := dk_44 (dk_at dksJ8_checkIndex_0 9 rfl rfl)
theorem dJ8_checkIndex_10 : decode cJ8_checkIndex 10 = .ok (.iload_n 0, 1) := dk_26 (dk_at dksJ8_checkIndex_0 10 rfl rfl)
theorem dJ8_checkIndex_11 : decode cJ8_checkIndex 11 = .ok (.iload_n 1, 1) := dk_27 (dk_at dksJ8_checkIndex_0 11 rfl rfl)
theorem dJ8_checkIndex_12 : decode cJ8_checkIndex 12 = .ok (.invokestatic 95, 3) := dk_184 0 95 (dk_at dksJ8_checkIndex_0 12 rfl rfl)
theorem dJ8_checkIndex_15 : decode cJ8_checkIndex 15 = .ok (.athrow, 1) := dk_191 (dk_at dksJ8_checkIndex_0 15 rfl rfl)
theorem dJ8_checkIndex_16 : decode cJ8_checkIndex 16 = .ok (.iload_n 0, 1) := dk_26 (dk_at dksJ8_checkIndex_0 16 rfl rfl)
theorem dJ8_checkIndex_17 : decode cJ8_checkIndex 17 = .ok (.ireturn, 1) := dk_172 (dk_at dksJ8_checkIndex_0 17 rfl rfl)
theorem q138 : (Jvm.Cond.initialized "jdk/internal/util/Preconditions") ∈ lw_all := lw_g (lw_at lw_m1 19 rfl) rfl
theorem q717 : (Jvm.Cond.laysStatic "jdk/internal/util/Preconditions" "SIOOBE_FORMATTER" "Ljava/util/function/BiFunction;") ∈ lw_tbl := lw_at lw_m3 118 rfl
theorem q719 : (Jvm.Cond.static ({ cls := "jdk/internal/util/Preconditions", name := "checkIndex", desc := "(IILjava/util/function/BiFunction;)I" } : Jvm.MethodName)) ∈ lw_all := lw_g (lw_at lw_m3 120 rfl) rfl
theorem q720 : (Jvm.Cond.code ({ cls := "jdk/internal/util/Preconditions", name := "checkIndex", desc := "(IILjava/util/function/BiFunction;)I" } : Jvm.MethodName) prog_31_method_11_code (3 : Nat) (Option.some Jvm.ClassFile.FieldType.int)) ∈ lw_all := lw_g (lw_at lw_m3 121 rfl) rfl
/-! java/lang/StringUTF16 -/
set_option maxRecDepth 100000
def RJ9 : String := "java/lang/StringUTF16"
abbrev cJ9_charAt : ByteArray := prog_28_method_83_code
def yJ9_charAt : MethodName := ⟨RJ9, "charAt", "([BI)C"⟩
def dkwJ9_charAt_0 : List UInt8 := [27, 42, 184, 0, 67, 42, 27, 184, 0, 71, 172]
abbrev dktJ9_charAt_0 : List UInt8 := dkwJ9_charAt_0 ++ []
theorem dksJ9_charAt_0 : cJ9_charAt.data.toList.drop 0 = dktJ9_charAt_0 := by decide +kernel
theorem dJ9_charAt_0 : decode cJ9_charAt 0 = .ok (.iload_n 1, 1) := dk_27 (dk_at dksJ9_charAt_0 0 rfl rfl)
theorem dJ9_charAt_1 : decode cJ9_charAt 1 = .ok (.aload_n 0, 1) := dk_42 (dk_at dksJ9_charAt_0 1 rfl rfl)
theorem dJ9_charAt_2 : decode cJ9_charAt 2 = .ok (.invokestatic 67, 3) := dk_184 0 67 (dk_at dksJ9_charAt_0 2 rfl rfl)
theorem dJ9_charAt_5 : decode cJ9_charAt 5 = .ok (.aload_n 0, 1) := dk_42 (dk_at dksJ9_charAt_0 5 rfl rfl)
theorem dJ9_charAt_6 : decode cJ9_charAt 6 = .ok (.iload_n 1, 1) := dk_27 (dk_at dksJ9_charAt_0 6 rfl rfl)
theorem dJ9_charAt_7 : decode cJ9_charAt 7 = .ok (.invokestatic 71, 3) := dk_184 0 71 (dk_at dksJ9_charAt_0 7 rfl rfl)
theorem dJ9_charAt_10 : decode cJ9_charAt 10 = .ok (.ireturn, 1) := dk_172 (dk_at dksJ9_charAt_0 10 rfl rfl)
abbrev cJ9_checkIndex : ByteArray := prog_28_method_91_code
def yJ9_checkIndex : MethodName := ⟨RJ9, "checkIndex", "(I[B)V"⟩
def dkwJ9_checkIndex_0 : List UInt8 := [26, 43, 184, 0, 48, 184, 1, 158, 177]
abbrev dktJ9_checkIndex_0 : List UInt8 := dkwJ9_checkIndex_0 ++ []
theorem dksJ9_checkIndex_0 : cJ9_checkIndex.data.toList.drop 0 = dktJ9_checkIndex_0 := by decide +kernel
theorem dJ9_checkIndex_0 : decode cJ9_checkIndex 0 = .ok (.iload_n 0, 1) := dk_26 (dk_at dksJ9_checkIndex_0 0 rfl rfl)
theorem dJ9_checkIndex_1 : decode cJ9_checkIndex 1 = .ok (.aload_n 1, 1) := dk_43 (dk_at dksJ9_checkIndex_0 1 rfl rfl)
theorem dJ9_checkIndex_2 : decode cJ9_checkIndex 2 = .ok (.invokestatic 48, 3) := dk_184 0 48 (dk_at dksJ9_checkIndex_0 2 rfl rfl)
theorem dJ9_checkIndex_5 : decode cJ9_checkIndex 5 = .ok (.invokestatic 414, 3) := dk_184 1 158 (dk_at dksJ9_checkIndex_0 5 rfl rfl)
theorem dJ9_checkIndex_8 : decode cJ9_checkIndex 8 = .ok (.return_, 1) := dk_177 (dk_at dksJ9_checkIndex_0 8 rfl rfl)
abbrev cJ9_length : ByteArray := prog_28_method_6_code
def yJ9_length : MethodName := ⟨RJ9, "length", "([B)I"⟩
def dkwJ9_length_0 : List UInt8 := [42, 190, 4, 122, 172]
abbrev dktJ9_length_0 : List UInt8 := dkwJ9_length_0 ++ []
theorem dksJ9_length_0 : cJ9_length.data.toList.drop 0 = dktJ9_length_0 := by decide +kernel
theorem dJ9_length_0 : decode cJ9_length 0 = .ok (.aload_n 0, 1) := dk_42 (dk_at dksJ9_length_0 0 rfl rfl)
theorem dJ9_length_1 : decode cJ9_length 1 = .ok (.arraylength, 1) := dk_190 (dk_at dksJ9_length_0 1 rfl rfl)
theorem dJ9_length_2 : decode cJ9_length 2 = .ok (.iconst 1, 1) := dk_4 (dk_at dksJ9_length_0 2 rfl rfl)
theorem dJ9_length_3 : decode cJ9_length 3 = .ok (.ishr, 1) := dk_122 (dk_at dksJ9_length_0 3 rfl rfl)
theorem dJ9_length_4 : decode cJ9_length 4 = .ok (.ireturn, 1) := dk_172 (dk_at dksJ9_length_0 4 rfl rfl)
abbrev cJ9_getChar : ByteArray := prog_28_method_5_code
def yJ9_getChar : MethodName := ⟨RJ9, "getChar", "([BI)C"⟩
def dkwJ9_getChar_2 : List UInt8 := [51, 17, 0, 255, 126, 178, 0, 63, 120, 128, 146, 172]
abbrev dktJ9_getChar_2 : List UInt8 := dkwJ9_getChar_2 ++ []
def dkwJ9_getChar_1 : List UInt8 := [183, 0, 56, 191, 27, 4, 120, 60, 42, 27, 132, 1, 1, 51, 17, 0, 255, 126, 178, 0, 59, 120, 42, 27]
abbrev dktJ9_getChar_1 : List UInt8 := dkwJ9_getChar_1 ++ dktJ9_getChar_2
def dkwJ9_getChar_0 : List UInt8 := [178, 0, 44, 154, 0, 25, 27, 155, 0, 11, 27, 42, 184, 0, 48, 161, 0, 13, 187, 0, 52, 89, 18, 54]
abbrev dktJ9_getChar_0 : List UInt8 := dkwJ9_getChar_0 ++ dktJ9_getChar_1
theorem dksJ9_getChar_0 : cJ9_getChar.data.toList.drop 0 = dktJ9_getChar_0 := by decide +kernel
theorem dksJ9_getChar_1 : cJ9_getChar.data.toList.drop 24 = dktJ9_getChar_1 := dk_seg dksJ9_getChar_0 24 rfl rfl
theorem dksJ9_getChar_2 : cJ9_getChar.data.toList.drop 48 = dktJ9_getChar_2 := dk_seg dksJ9_getChar_1 24 rfl rfl
theorem dJ9_getChar_0 : decode cJ9_getChar 0 = .ok (.getstatic 44, 3) := dk_178 0 44 (dk_at dksJ9_getChar_0 0 rfl rfl)
theorem dJ9_getChar_3 : decode cJ9_getChar 3 = .ok (.ifCond .ne 25, 3) := dk_154 0 25 (dk_at dksJ9_getChar_0 3 rfl rfl)
theorem dJ9_getChar_6 : decode cJ9_getChar 6 = .ok (.iload_n 1, 1) := dk_27 (dk_at dksJ9_getChar_0 6 rfl rfl)
theorem dJ9_getChar_7 : decode cJ9_getChar 7 = .ok (.ifCond .lt 11, 3) := dk_155 0 11 (dk_at dksJ9_getChar_0 7 rfl rfl)
theorem dJ9_getChar_10 : decode cJ9_getChar 10 = .ok (.iload_n 1, 1) := dk_27 (dk_at dksJ9_getChar_0 10 rfl rfl)
theorem dJ9_getChar_11 : decode cJ9_getChar 11 = .ok (.aload_n 0, 1) := dk_42 (dk_at dksJ9_getChar_0 11 rfl rfl)
theorem dJ9_getChar_12 : decode cJ9_getChar 12 = .ok (.invokestatic 48, 3) := dk_184 0 48 (dk_at dksJ9_getChar_0 12 rfl rfl)
theorem dJ9_getChar_15 : decode cJ9_getChar 15 = .ok (.if_icmp .lt 13, 3) := dk_161 0 13 (dk_at dksJ9_getChar_0 15 rfl rfl)
theorem dJ9_getChar_18 : decode cJ9_getChar 18 = .ok (.new 52, 3) := dk_187 0 52 (dk_at dksJ9_getChar_0 18 rfl rfl)
theorem dJ9_getChar_21 : decode cJ9_getChar 21 = .ok (.dup, 1) := dk_89 (dk_at dksJ9_getChar_0 21 rfl rfl)
theorem dJ9_getChar_22 : decode cJ9_getChar 22 = .ok (.ldc 54, 2) := dk_18 54 (dk_at dksJ9_getChar_0 22 rfl rfl)
theorem dJ9_getChar_24 : decode cJ9_getChar 24 = .ok (.invokespecial 56, 3) := dk_183 0 56 (dk_at dksJ9_getChar_1 0 rfl rfl)
theorem dJ9_getChar_27 : decode cJ9_getChar 27 = .ok (.athrow, 1) := dk_191 (dk_at dksJ9_getChar_1 3 rfl rfl)
theorem dJ9_getChar_28 : decode cJ9_getChar 28 = .ok (.iload_n 1, 1) := dk_27 (dk_at dksJ9_getChar_1 4 rfl rfl)
theorem dJ9_getChar_29 : decode cJ9_getChar 29 = .ok (.iconst 1, 1) := dk_4 (dk_at dksJ9_getChar_1 5 rfl rfl)
theorem dJ9_getChar_30 : decode cJ9_getChar 30 = .ok (.ishl, 1) := dk_120 (dk_at dksJ9_getChar_1 6 rfl rfl)
theorem dJ9_getChar_31 : decode cJ9_getChar 31 = .ok (.istore_n 1, 1) := dk_60 (dk_at dksJ9_getChar_1 7 rfl rfl)
theorem dJ9_getChar_32 : decode cJ9_getChar 32 = .ok (.aload_n 0, 1) := dk_42 (dk_at dksJ9_getChar_1 8 rfl rfl)
theorem dJ9_getChar_33 : decode cJ9_getChar 33 = .ok (.iload_n 1, 1) := dk_27 (dk_at dksJ9_getChar_1 9 rfl rfl)
theorem dJ9_getChar_34 : decode cJ9_getChar 34 = .ok (.iinc 1 1, 3) := dk_132 1 1 (dk_at dksJ9_getChar_1 10 rfl rfl)
theorem dJ9_getChar_37 : decode cJ9_getChar 37 = .ok (.baload, 1) := dk_51 (dk_at dksJ9_getChar_1 13 rfl rfl)
theorem dJ9_getChar_38 : decode cJ9_getChar 38 = .ok (.sipush 255, 3) := dk_17 0 255 (dk_at dksJ9_getChar_1 14 rfl rfl)
theorem dJ9_getChar_41 : decode cJ9_getChar 41 = .ok (.iand, 1) := dk_126 (dk_at dksJ9_getChar_1 17 rfl rfl)
theorem dJ9_getChar_42 : decode cJ9_getChar 42 = .ok (.getstatic 59, 3) := dk_178 0 59 (dk_at dksJ9_getChar_1 18 rfl rfl)
theorem dJ9_getChar_45 : decode cJ9_getChar 45 = .ok (.ishl, 1) := dk_120 (dk_at dksJ9_getChar_1 21 rfl rfl)
theorem dJ9_getChar_46 : decode cJ9_getChar 46 = .ok (.aload_n 0, 1) := dk_42 (dk_at dksJ9_getChar_1 22 rfl rfl)
theorem dJ9_getChar_47 : decode cJ9_getChar 47 = .ok (.iload_n 1, 1) := dk_27 (dk_at dksJ9_getChar_1 23 rfl rfl)
theorem dJ9_getChar_48 : decode cJ9_getChar 48 = .ok (.baload, 1) := dk_51 (dk_at dksJ9_getChar_2 0 rfl rfl)
theorem dJ9_getChar_49 : decode cJ9_getChar 49 = .ok (.sipush 255, 3) := dk_17 0 255 (dk_at dksJ9_getChar_2 1 rfl rfl)
theorem dJ9_getChar_52 : decode cJ9_getChar 52 = .ok (.iand, 1) := dk_126 (dk_at dksJ9_getChar_2 4 rfl rfl)
theorem dJ9_getChar_53 : decode cJ9_getChar 53 = .ok (.getstatic 63, 3) := dk_178 0 63 (dk_at dksJ9_getChar_2 5 rfl rfl)
theorem dJ9_getChar_56 : decode cJ9_getChar 56 = .ok (.ishl, 1) := dk_120 (dk_at dksJ9_getChar_2 8 rfl rfl)
theorem dJ9_getChar_57 : decode cJ9_getChar 57 = .ok (.ior, 1) := dk_128 (dk_at dksJ9_getChar_2 9 rfl rfl)
theorem dJ9_getChar_58 : decode cJ9_getChar 58 = .ok (.i2c, 1) := dk_146 (dk_at dksJ9_getChar_2 10 rfl rfl)
theorem dJ9_getChar_59 : decode cJ9_getChar 59 = .ok (.ireturn, 1) := dk_172 (dk_at dksJ9_getChar_2 11 rfl rfl)
theorem q139 : (Jvm.Cond.initialized "java/lang/StringUTF16") ∈ lw_all := lw_g (lw_at lw_m1 20 rfl) rfl
theorem q722 : (Jvm.Cond.static ({ cls := "java/lang/StringUTF16", name := "charAt", desc := "([BI)C" } : Jvm.MethodName)) ∈ lw_all := lw_g (lw_at lw_m3 123 rfl) rfl
theorem q723 : (Jvm.Cond.code ({ cls := "java/lang/StringUTF16", name := "charAt", desc := "([BI)C" } : Jvm.MethodName) prog_28_method_83_code (2 : Nat) (Option.some Jvm.ClassFile.FieldType.char)) ∈ lw_all := lw_g (lw_at lw_m3 124 rfl) rfl
theorem q724 : (Jvm.Cond.methodLink "java/lang/StringUTF16" (67 : Nat) ({ cls := "java/lang/StringUTF16", name := "checkIndex", desc := "(I[B)V" } : Jvm.MethodName)) ∈ lw_all := lw_g (lw_at lw_m3 125 rfl) rfl
theorem q725 : (Jvm.Cond.static ({ cls := "java/lang/StringUTF16", name := "checkIndex", desc := "(I[B)V" } : Jvm.MethodName)) ∈ lw_all := lw_g (lw_at lw_m3 126 rfl) rfl
theorem q726 : (Jvm.Cond.code ({ cls := "java/lang/StringUTF16", name := "checkIndex", desc := "(I[B)V" } : Jvm.MethodName) prog_28_method_91_code (2 : Nat) (Option.none : Option Jvm.ClassFile.FieldType)) ∈ lw_all := lw_g (lw_at lw_m3 127 rfl) rfl
theorem q727 : (Jvm.Cond.methodLink "java/lang/StringUTF16" (48 : Nat) ({ cls := "java/lang/StringUTF16", name := "length", desc := "([B)I" } : Jvm.MethodName)) ∈ lw_all := lw_g (lw_at lw_m3 128 rfl) rfl
theorem q728 : (Jvm.Cond.static ({ cls := "java/lang/StringUTF16", name := "length", desc := "([B)I" } : Jvm.MethodName)) ∈ lw_all := lw_g (lw_at lw_m3 129 rfl) rfl
theorem q729 : (Jvm.Cond.code ({ cls := "java/lang/StringUTF16", name := "length", desc := "([B)I" } : Jvm.MethodName) prog_28_method_6_code (1 : Nat) (Option.some Jvm.ClassFile.FieldType.int)) ∈ lw_all := lw_g (lw_at lw_m3 130 rfl) rfl
theorem q730 : (Jvm.Cond.methodLink "java/lang/StringUTF16" (414 : Nat) ({ cls := "java/lang/String", name := "checkIndex", desc := "(II)V" } : Jvm.MethodName)) ∈ lw_all := lw_g (lw_at lw_m3 131 rfl) rfl
theorem q731 : (Jvm.Cond.methodLink "java/lang/StringUTF16" (71 : Nat) ({ cls := "java/lang/StringUTF16", name := "getChar", desc := "([BI)C" } : Jvm.MethodName)) ∈ lw_all := lw_g (lw_at lw_m3 132 rfl) rfl
theorem q732 : (Jvm.Cond.static ({ cls := "java/lang/StringUTF16", name := "getChar", desc := "([BI)C" } : Jvm.MethodName)) ∈ lw_all := lw_g (lw_at lw_m3 133 rfl) rfl
theorem q733 : (Jvm.Cond.code ({ cls := "java/lang/StringUTF16", name := "getChar", desc := "([BI)C" } : Jvm.MethodName) prog_28_method_5_code (2 : Nat) (Option.some Jvm.ClassFile.FieldType.char)) ∈ lw_all := lw_g (lw_at lw_m3 134 rfl) rfl
theorem q734 : (Jvm.Cond.fieldLink "java/lang/StringUTF16" (44 : Nat) "java/lang/StringUTF16" "$assertionsDisabled" "Z") ∈ lw_all := lw_g (lw_at lw_m3 135 rfl) rfl
theorem q735 : (Jvm.Cond.laysStatic "java/lang/StringUTF16" "$assertionsDisabled" "Z") ∈ lw_tbl := lw_at lw_m3 136 rfl
theorem q736 : (Jvm.Cond.fieldLink "java/lang/StringUTF16" (59 : Nat) "java/lang/StringUTF16" "HI_BYTE_SHIFT" "I") ∈ lw_all := lw_g (lw_at lw_m3 137 rfl) rfl
theorem q737 : (Jvm.Cond.laysStatic "java/lang/StringUTF16" "HI_BYTE_SHIFT" "I") ∈ lw_tbl := lw_at lw_m3 138 rfl
theorem q738 : (Jvm.Cond.fieldLink "java/lang/StringUTF16" (63 : Nat) "java/lang/StringUTF16" "LO_BYTE_SHIFT" "I") ∈ lw_all := lw_g (lw_at lw_m3 139 rfl) rfl
theorem q739 : (Jvm.Cond.laysStatic "java/lang/StringUTF16" "LO_BYTE_SHIFT" "I") ∈ lw_tbl := lw_at lw_m3 140 rfl
/-! java/lang/Integer -/
set_option maxRecDepth 100000
def RJ11 : String := "java/lang/Integer"
abbrev cJ11_bitCount : ByteArray := prog_21_method_49_code
def yJ11_bitCount : MethodName := ⟨RJ11, "bitCount", "(I)I"⟩
def dkwJ11_bitCount_2 : List UInt8 := [26, 16, 63, 126, 172]
abbrev dktJ11_bitCount_2 : List UInt8 := dkwJ11_bitCount_2 ++ []
def dkwJ11_bitCount_1 : List UInt8 := [26, 26, 7, 124, 96, 19, 1, 11, 126, 59, 26, 26, 16, 8, 124, 96, 59, 26, 26, 16, 16, 124, 96, 59]
abbrev dktJ11_bitCount_1 : List UInt8 := dkwJ11_bitCount_1 ++ dktJ11_bitCount_2
def dkwJ11_bitCount_0 : List UInt8 := [26, 26, 4, 124, 19, 1, 9, 126, 100, 59, 26, 19, 1, 10, 126, 26, 5, 124, 19, 1, 10, 126, 96, 59]
abbrev dktJ11_bitCount_0 : List UInt8 := dkwJ11_bitCount_0 ++ dktJ11_bitCount_1
theorem dksJ11_bitCount_0 : cJ11_bitCount.data.toList.drop 0 = dktJ11_bitCount_0 := by decide +kernel
theorem dksJ11_bitCount_1 : cJ11_bitCount.data.toList.drop 24 = dktJ11_bitCount_1 := dk_seg dksJ11_bitCount_0 24 rfl rfl
theorem dksJ11_bitCount_2 : cJ11_bitCount.data.toList.drop 48 = dktJ11_bitCount_2 := dk_seg dksJ11_bitCount_1 24 rfl rfl
theorem dJ11_bitCount_0 : decode cJ11_bitCount 0 = .ok (.iload_n 0, 1) := dk_26 (dk_at dksJ11_bitCount_0 0 rfl rfl)
theorem dJ11_bitCount_1 : decode cJ11_bitCount 1 = .ok (.iload_n 0, 1) := dk_26 (dk_at dksJ11_bitCount_0 1 rfl rfl)
theorem dJ11_bitCount_2 : decode cJ11_bitCount 2 = .ok (.iconst 1, 1) := dk_4 (dk_at dksJ11_bitCount_0 2 rfl rfl)
theorem dJ11_bitCount_3 : decode cJ11_bitCount 3 = .ok (.iushr, 1) := dk_124 (dk_at dksJ11_bitCount_0 3 rfl rfl)
theorem dJ11_bitCount_4 : decode cJ11_bitCount 4 = .ok (.ldc_w 265, 3) := dk_19 1 9 (dk_at dksJ11_bitCount_0 4 rfl rfl)
theorem dJ11_bitCount_7 : decode cJ11_bitCount 7 = .ok (.iand, 1) := dk_126 (dk_at dksJ11_bitCount_0 7 rfl rfl)
theorem dJ11_bitCount_8 : decode cJ11_bitCount 8 = .ok (.isub, 1) := dk_100 (dk_at dksJ11_bitCount_0 8 rfl rfl)
theorem dJ11_bitCount_9 : decode cJ11_bitCount 9 = .ok (.istore_n 0, 1) := dk_59 (dk_at dksJ11_bitCount_0 9 rfl rfl)
theorem dJ11_bitCount_10 : decode cJ11_bitCount 10 = .ok (.iload_n 0, 1) := dk_26 (dk_at dksJ11_bitCount_0 10 rfl rfl)
theorem dJ11_bitCount_11 : decode cJ11_bitCount 11 = .ok (.ldc_w 266, 3) := dk_19 1 10 (dk_at dksJ11_bitCount_0 11 rfl rfl)
theorem dJ11_bitCount_14 : decode cJ11_bitCount 14 = .ok (.iand, 1) := dk_126 (dk_at dksJ11_bitCount_0 14 rfl rfl)
theorem dJ11_bitCount_15 : decode cJ11_bitCount 15 = .ok (.iload_n 0, 1) := dk_26 (dk_at dksJ11_bitCount_0 15 rfl rfl)
theorem dJ11_bitCount_16 : decode cJ11_bitCount 16 = .ok (.iconst 2, 1) := dk_5 (dk_at dksJ11_bitCount_0 16 rfl rfl)
theorem dJ11_bitCount_17 : decode cJ11_bitCount 17 = .ok (.iushr, 1) := dk_124 (dk_at dksJ11_bitCount_0 17 rfl rfl)
theorem dJ11_bitCount_18 : decode cJ11_bitCount 18 = .ok (.ldc_w 266, 3) := dk_19 1 10 (dk_at dksJ11_bitCount_0 18 rfl rfl)
theorem dJ11_bitCount_21 : decode cJ11_bitCount 21 = .ok (.iand, 1) := dk_126 (dk_at dksJ11_bitCount_0 21 rfl rfl)
theorem dJ11_bitCount_22 : decode cJ11_bitCount 22 = .ok (.iadd, 1) := dk_96 (dk_at dksJ11_bitCount_0 22 rfl rfl)
theorem dJ11_bitCount_23 : decode cJ11_bitCount 23 = .ok (.istore_n 0, 1) := dk_59 (dk_at dksJ11_bitCount_0 23 rfl rfl)
theorem dJ11_bitCount_24 : decode cJ11_bitCount 24 = .ok (.iload_n 0, 1) := dk_26 (dk_at dksJ11_bitCount_1 0 rfl rfl)
theorem dJ11_bitCount_25 : decode cJ11_bitCount 25 = .ok (.iload_n 0, 1) := dk_26 (dk_at dksJ11_bitCount_1 1 rfl rfl)
theorem dJ11_bitCount_26 : decode cJ11_bitCount 26 = .ok (.iconst 4, 1) := dk_7 (dk_at dksJ11_bitCount_1 2 rfl rfl)
theorem dJ11_bitCount_27 : decode cJ11_bitCount 27 = .ok (.iushr, 1) := dk_124 (dk_at dksJ11_bitCount_1 3 rfl rfl)
theorem dJ11_bitCount_28 : decode cJ11_bitCount 28 = .ok (.iadd, 1) := dk_96 (dk_at dksJ11_bitCount_1 4 rfl rfl)
theorem dJ11_bitCount_29 : decode cJ11_bitCount 29 = .ok (.ldc_w 267, 3) := dk_19 1 11 (dk_at dksJ11_bitCount_1 5 rfl rfl)
theorem dJ11_bitCount_32 : decode cJ11_bitCount 32 = .ok (.iand, 1) := dk_126 (dk_at dksJ11_bitCount_1 8 rfl rfl)
theorem dJ11_bitCount_33 : decode cJ11_bitCount 33 = .ok (.istore_n 0, 1) := dk_59 (dk_at dksJ11_bitCount_1 9 rfl rfl)
theorem dJ11_bitCount_34 : decode cJ11_bitCount 34 = .ok (.iload_n 0, 1) := dk_26 (dk_at dksJ11_bitCount_1 10 rfl rfl)
theorem dJ11_bitCount_35 : decode cJ11_bitCount 35 = .ok (.iload_n 0, 1) := dk_26 (dk_at dksJ11_bitCount_1 11 rfl rfl)
theorem dJ11_bitCount_36 : decode cJ11_bitCount 36 = .ok (.bipush 8, 2) := dk_16 8 (dk_at dksJ11_bitCount_1 12 rfl rfl)
theorem dJ11_bitCount_38 : decode cJ11_bitCount 38 = .ok (.iushr, 1) := dk_124 (dk_at dksJ11_bitCount_1 14 rfl rfl)
theorem dJ11_bitCount_39 : decode cJ11_bitCount 39 = .ok (.iadd, 1) := dk_96 (dk_at dksJ11_bitCount_1 15 rfl rfl)
theorem dJ11_bitCount_40 : decode cJ11_bitCount 40 = .ok (.istore_n 0, 1) := dk_59 (dk_at dksJ11_bitCount_1 16 rfl rfl)
theorem dJ11_bitCount_41 : decode cJ11_bitCount 41 = .ok (.iload_n 0, 1) := dk_26 (dk_at dksJ11_bitCount_1 17 rfl rfl)
theorem dJ11_bitCount_42 : decode cJ11_bitCount 42 = .ok (.iload_n 0, 1) := dk_26 (dk_at dksJ11_bitCount_1 18 rfl rfl)
theorem dJ11_bitCount_43 : decode cJ11_bitCount 43 = .ok (.bipush 16, 2) := dk_16 16 (dk_at dksJ11_bitCount_1 19 rfl rfl)
theorem dJ11_bitCount_45 : decode cJ11_bitCount 45 = .ok (.iushr, 1) := dk_124 (dk_at dksJ11_bitCount_1 21 rfl rfl)
theorem dJ11_bitCount_46 : decode cJ11_bitCount 46 = .ok (.iadd, 1) := dk_96 (dk_at dksJ11_bitCount_1 22 rfl rfl)
theorem dJ11_bitCount_47 : decode cJ11_bitCount 47 = .ok (.istore_n 0, 1) := dk_59 (dk_at dksJ11_bitCount_1 23 rfl rfl)
theorem dJ11_bitCount_48 : decode cJ11_bitCount 48 = .ok (.iload_n 0, 1) := dk_26 (dk_at dksJ11_bitCount_2 0 rfl rfl)
theorem dJ11_bitCount_49 : decode cJ11_bitCount 49 = .ok (.bipush 63, 2) := dk_16 63 (dk_at dksJ11_bitCount_2 1 rfl rfl)
theorem dJ11_bitCount_51 : decode cJ11_bitCount 51 = .ok (.iand, 1) := dk_126 (dk_at dksJ11_bitCount_2 3 rfl rfl)
theorem dJ11_bitCount_52 : decode cJ11_bitCount 52 = .ok (.ireturn, 1) := dk_172 (dk_at dksJ11_bitCount_2 4 rfl rfl)
theorem q148 : (Jvm.Cond.initialized "java/lang/Integer") ∈ lw_all := lw_g (lw_at lw_m1 29 rfl) rfl
theorem q1182 : (Jvm.Cond.static ({ cls := "java/lang/Integer", name := "bitCount", desc := "(I)I" } : Jvm.MethodName)) ∈ lw_all := lw_g (lw_at lw_m5 103 rfl) rfl
theorem q1183 : (Jvm.Cond.code ({ cls := "java/lang/Integer", name := "bitCount", desc := "(I)I" } : Jvm.MethodName) prog_21_method_49_code (1 : Nat) (Option.some Jvm.ClassFile.FieldType.int)) ∈ lw_all := lw_g (lw_at lw_m5 104 rfl) rfl
theorem q1184 : (Jvm.Cond.constant "java/lang/Integer" (265 : Nat) (1431655765 : Int32)) ∈ lw_all := lw_g (lw_at lw_m5 105 rfl) rfl
theorem q1185 : (Jvm.Cond.constant "java/lang/Integer" (266 : Nat) (858993459 : Int32)) ∈ lw_all := lw_g (lw_at lw_m5 106 rfl) rfl
theorem q1186 : (Jvm.Cond.constant "java/lang/Integer" (267 : Nat) (252645135 : Int32)) ∈ lw_all := lw_g (lw_at lw_m5 107 rfl) rfl
/-! java/lang/Long -/
set_option maxRecDepth 100000
def RJ12 : String := "java/lang/Long"
abbrev cJ12_signum : ByteArray := prog_22_method_57_code
def yJ12_signum : MethodName := ⟨RJ12, "signum", "(J)I"⟩
def dkwJ12_signum_0 : List UInt8 := [30, 16, 63, 123, 30, 117, 16, 63, 125, 129, 136, 172]
abbrev dktJ12_signum_0 : List UInt8 := dkwJ12_signum_0 ++ []
theorem dksJ12_signum_0 : cJ12_signum.data.toList.drop 0 = dktJ12_signum_0 := by decide +kernel
theorem dJ12_signum_0 : decode cJ12_signum 0 = .ok (.lload_n 0, 1) := dk_30 (dk_at dksJ12_signum_0 0 rfl rfl)
theorem dJ12_signum_1 : decode cJ12_signum 1 = .ok (.bipush 63, 2) := dk_16 63 (dk_at dksJ12_signum_0 1 rfl rfl)
theorem dJ12_signum_3 : decode cJ12_signum 3 = .ok (.lshr, 1) := dk_123 (dk_at dksJ12_signum_0 3 rfl rfl)
theorem dJ12_signum_4 : decode cJ12_signum 4 = .ok (.lload_n 0, 1) := dk_30 (dk_at dksJ12_signum_0 4 rfl rfl)
theorem dJ12_signum_5 : decode cJ12_signum 5 = .ok (.lneg, 1) := dk_117 (dk_at dksJ12_signum_0 5 rfl rfl)
theorem dJ12_signum_6 : decode cJ12_signum 6 = .ok (.bipush 63, 2) := dk_16 63 (dk_at dksJ12_signum_0 6 rfl rfl)
theorem dJ12_signum_8 : decode cJ12_signum 8 = .ok (.lushr, 1) := dk_125 (dk_at dksJ12_signum_0 8 rfl rfl)
theorem dJ12_signum_9 : decode cJ12_signum 9 = .ok (.lor, 1) := dk_129 (dk_at dksJ12_signum_0 9 rfl rfl)
theorem dJ12_signum_10 : decode cJ12_signum 10 = .ok (.l2i, 1) := dk_136 (dk_at dksJ12_signum_0 10 rfl rfl)
theorem dJ12_signum_11 : decode cJ12_signum 11 = .ok (.ireturn, 1) := dk_172 (dk_at dksJ12_signum_0 11 rfl rfl)
theorem q149 : (Jvm.Cond.initialized "java/lang/Long") ∈ lw_all := lw_g (lw_at lw_m1 30 rfl) rfl
theorem q1460 : (Jvm.Cond.static ({ cls := "java/lang/Long", name := "signum", desc := "(J)I" } : Jvm.MethodName)) ∈ lw_all := lw_g (lw_at lw_m6 141 rfl) rfl
theorem q1461 : (Jvm.Cond.code ({ cls := "java/lang/Long", name := "signum", desc := "(J)I" } : Jvm.MethodName) prog_22_method_57_code (2 : Nat) (Option.some Jvm.ClassFile.FieldType.int)) ∈ lw_all := lw_g (lw_at lw_m6 142 rfl) rfl
/-! java/lang/Object -/
set_option maxRecDepth 100000
def RJ13 : String := "java/lang/Object"
abbrev cJ13_init : ByteArray := object_method_1_code
def yJ13_init : MethodName := ⟨RJ13, "<init>", "()V"⟩
theorem dJ13_init_0 : decode cJ13_init 0 = .ok (.return_, 1) := by decide +kernel
theorem q156 : (Jvm.Cond.instanceMethod ({ cls := "java/lang/Object", name := "<init>", desc := "()V" } : Jvm.MethodName)) ∈ lw_all := lw_g (lw_at lw_m1 37 rfl) rfl
theorem q157 : (Jvm.Cond.code ({ cls := "java/lang/Object", name := "<init>", desc := "()V" } : Jvm.MethodName) object_method_1_code (1 : Nat) (Option.none : Option Jvm.ClassFile.FieldType)) ∈ lw_all := lw_g (lw_at lw_m1 38 rfl) rfl
/-! RaisedPress$Tray -/
set_option maxRecDepth 100000
def RX1 : String := "RaisedPress$Tray"
def TX1 : u_T := fun k => match k with
  | _ => ("RaisedPress$Tray", "row", "Ljava/lang/Object;", false)
def tyX1 : Nat → FieldType := fun k => match k with
  | _ => .object "java/lang/Object"
abbrev wsX10 : List Cond := u_ws RX1 TX1 1
theorem nmX1 : ∀ a, a < 1 → ∀ b, b < 1 → a ≠ b → (TX1 a).2.1 ≠ (TX1 b).2.1 := by decide +kernel
theorem tyX1_ok : ∀ k, k < 1 → parseFieldDescriptor (TX1 k).2.2.1 = some (tyX1 k) := by decide +kernel
abbrev cX1_init : ByteArray := prog_14_method_1_code
def yX1_init : MethodName := ⟨RX1, "<init>", "()V"⟩
theorem dX1_init_0 : decode cX1_init 0 = .ok (.aload_n 0, 1) := by decide +kernel
theorem dX1_init_1 : decode cX1_init 1 = .ok (.invokespecial 1, 3) := by decide +kernel
theorem dX1_init_4 : decode cX1_init 4 = .ok (.return_, 1) := by decide +kernel
theorem q121 : (Jvm.Cond.initialized "RaisedPress$Tray") ∈ lw_all := lw_g (lw_at lw_m1 2 rfl) rfl
theorem q160 : (Jvm.Cond.instantiable "RaisedPress$Tray" (1 : Nat)) ∈ lw_all := lw_g (lw_at lw_m1 41 rfl) rfl
theorem q162 : (Jvm.Cond.instanceMethod ({ cls := "RaisedPress$Tray", name := "<init>", desc := "()V" } : Jvm.MethodName)) ∈ lw_all := lw_g (lw_at lw_m1 43 rfl) rfl
theorem q163 : (Jvm.Cond.code ({ cls := "RaisedPress$Tray", name := "<init>", desc := "()V" } : Jvm.MethodName) prog_14_method_1_code (1 : Nat) (Option.none : Option Jvm.ClassFile.FieldType)) ∈ lw_all := lw_g (lw_at lw_m1 44 rfl) rfl
theorem q164 : (Jvm.Cond.methodLink "RaisedPress$Tray" (1 : Nat) ({ cls := "java/lang/Object", name := "<init>", desc := "()V" } : Jvm.MethodName)) ∈ lw_all := lw_g (lw_at lw_m1 45 rfl) rfl
theorem q166 : (Jvm.Cond.lays "RaisedPress$Tray" "RaisedPress$Tray" "row" "Ljava/lang/Object;") ∈ lw_all := lw_g (lw_at lw_m1 47 rfl) rfl
theorem q167 : (Jvm.Cond.soleField "RaisedPress$Tray" "row") ∈ lw_all := lw_g (lw_at lw_m1 48 rfl) rfl
theorem q168 : (Jvm.Cond.superclass "RaisedPress$Tray" "java/lang/Object") ∈ lw_all := lw_g (lw_at lw_m1 49 rfl) rfl
theorem in_X1 : ∀ w ∈ wsX10, w ∈ lw_all := lw_in wsX10 [166] (by decide +kernel) (by decide +kernel)
/-! RaisedPress$Bad -/
set_option maxRecDepth 100000
def RX2 : String := "RaisedPress$Bad"
def TX2 : u_T := fun k => match k with
  | 0 => ("java/lang/Throwable", "cause", "Ljava/lang/Throwable;", false)
  | 1 => ("java/lang/Throwable", "stackTrace", "[Ljava/lang/StackTraceElement;", false)
  | 2 => ("java/lang/Throwable", "suppressedExceptions", "Ljava/util/List;", false)
  | 3 => ("java/lang/Throwable", "detailMessage", "Ljava/lang/String;", false)
  | 4 => ("java/lang/Throwable", "backtrace", "Ljava/lang/Object;", false)
  | 5 => ("java/lang/Throwable", "depth", "I", false)
  | 6 => ("RaisedPress$Bad", "kind", "I", false)
  | _ => ("RaisedPress$Bad", "place", "I", false)
def tyX2 : Nat → FieldType := fun k => match k with
  | 0 => .object "java/lang/Throwable"
  | 1 => .array (.object "java/lang/StackTraceElement")
  | 2 => .object "java/util/List"
  | 3 => .object "java/lang/String"
  | 4 => .object "java/lang/Object"
  | 5 => .int
  | 6 => .int
  | _ => .int
abbrev wsX20 : List Cond := u_ws RX2 TX2 8
theorem nmX2 : ∀ a, a < 8 → ∀ b, b < 8 → a ≠ b → (TX2 a).2.1 ≠ (TX2 b).2.1 := by decide +kernel
theorem tyX2_ok : ∀ k, k < 8 → parseFieldDescriptor (TX2 k).2.2.1 = some (tyX2 k) := by decide +kernel
abbrev cX2_init : ByteArray := prog_4_method_1_code
def yX2_init : MethodName := ⟨RX2, "<init>", "()V"⟩
def dkwX2_init_0 : List UInt8 := [42, 1, 1, 3, 3, 183, 0, 1, 177]
abbrev dktX2_init_0 : List UInt8 := dkwX2_init_0 ++ []
theorem dksX2_init_0 : cX2_init.data.toList.drop 0 = dktX2_init_0 := by decide +kernel
theorem dX2_init_0 : decode cX2_init 0 = .ok (.aload_n 0, 1) := dk_42 (dk_at dksX2_init_0 0 rfl rfl)
theorem dX2_init_1 : decode cX2_init 1 = .ok (.aconst_null, 1) := dk_1 (dk_at dksX2_init_0 1 rfl rfl)
theorem dX2_init_2 : decode cX2_init 2 = .ok (.aconst_null, 1) := dk_1 (dk_at dksX2_init_0 2 rfl rfl)
theorem dX2_init_3 : decode cX2_init 3 = .ok (.iconst 0, 1) := dk_3 (dk_at dksX2_init_0 3 rfl rfl)
theorem dX2_init_4 : decode cX2_init 4 = .ok (.iconst 0, 1) := dk_3 (dk_at dksX2_init_0 4 rfl rfl)
theorem dX2_init_5 : decode cX2_init 5 = .ok (.invokespecial 1, 3) := dk_183 0 1 (dk_at dksX2_init_0 5 rfl rfl)
theorem dX2_init_8 : decode cX2_init 8 = .ok (.return_, 1) := dk_177 (dk_at dksX2_init_0 8 rfl rfl)
abbrev cX2_at : ByteArray := prog_4_method_2_code
def yX2_at : MethodName := ⟨RX2, "at", "(II)LRaisedPress$Bad;"⟩
def dkwX2_at_0 : List UInt8 := [42, 27, 181, 0, 7, 42, 28, 181, 0, 13, 42, 176]
abbrev dktX2_at_0 : List UInt8 := dkwX2_at_0 ++ []
theorem dksX2_at_0 : cX2_at.data.toList.drop 0 = dktX2_at_0 := by decide +kernel
theorem dX2_at_0 : decode cX2_at 0 = .ok (.aload_n 0, 1) := dk_42 (dk_at dksX2_at_0 0 rfl rfl)
theorem dX2_at_1 : decode cX2_at 1 = .ok (.iload_n 1, 1) := dk_27 (dk_at dksX2_at_0 1 rfl rfl)
theorem dX2_at_2 : decode cX2_at 2 = .ok (.putfield 7, 3) := dk_181 0 7 (dk_at dksX2_at_0 2 rfl rfl)
theorem dX2_at_5 : decode cX2_at 5 = .ok (.aload_n 0, 1) := dk_42 (dk_at dksX2_at_0 5 rfl rfl)
theorem dX2_at_6 : decode cX2_at 6 = .ok (.iload_n 2, 1) := dk_28 (dk_at dksX2_at_0 6 rfl rfl)
theorem dX2_at_7 : decode cX2_at 7 = .ok (.putfield 13, 3) := dk_181 0 13 (dk_at dksX2_at_0 7 rfl rfl)
theorem dX2_at_10 : decode cX2_at 10 = .ok (.aload_n 0, 1) := dk_42 (dk_at dksX2_at_0 10 rfl rfl)
theorem dX2_at_11 : decode cX2_at 11 = .ok (.areturn, 1) := dk_176 (dk_at dksX2_at_0 11 rfl rfl)
theorem q124 : (Jvm.Cond.initialized "RaisedPress$Bad") ∈ lw_all := lw_g (lw_at lw_m1 5 rfl) rfl
theorem q170 : (Jvm.Cond.instantiable "RaisedPress$Bad" (8 : Nat)) ∈ lw_all := lw_g (lw_at lw_m1 51 rfl) rfl
theorem q171 : (Jvm.Cond.castable "RaisedPress$Bad" "RaisedPress$Bad") ∈ lw_tbl := lw_at lw_m1 52 rfl
theorem q176 : (Jvm.Cond.selects "RaisedPress$Bad" ({ cls := "java/lang/Throwable", name := "fillInStackTrace", desc := "(I)Ljava/lang/Throwable;" } : Jvm.MethodName) ({ cls := "java/lang/Throwable", name := "fillInStackTrace", desc := "(I)Ljava/lang/Throwable;" } : Jvm.MethodName)) ∈ lw_all := lw_g (lw_at lw_m1 57 rfl) rfl
theorem q177 : (Jvm.Cond.selects "RaisedPress$Bad" ({ cls := "java/lang/Throwable", name := "fillInStackTrace", desc := "()Ljava/lang/Throwable;" } : Jvm.MethodName) ({ cls := "java/lang/Throwable", name := "fillInStackTrace", desc := "()Ljava/lang/Throwable;" } : Jvm.MethodName)) ∈ lw_all := lw_g (lw_at lw_m1 58 rfl) rfl
theorem q178 : (Jvm.Cond.lays "RaisedPress$Bad" "java/lang/Throwable" "cause" "Ljava/lang/Throwable;") ∈ lw_all := lw_g (lw_at lw_m1 59 rfl) rfl
theorem q180 : (Jvm.Cond.lays "RaisedPress$Bad" "java/lang/Throwable" "stackTrace" "[Ljava/lang/StackTraceElement;") ∈ lw_all := lw_g (lw_at lw_m1 61 rfl) rfl
theorem q182 : (Jvm.Cond.lays "RaisedPress$Bad" "java/lang/Throwable" "suppressedExceptions" "Ljava/util/List;") ∈ lw_all := lw_g (lw_at lw_m1 63 rfl) rfl
theorem q184 : (Jvm.Cond.lays "RaisedPress$Bad" "java/lang/Throwable" "detailMessage" "Ljava/lang/String;") ∈ lw_all := lw_g (lw_at lw_m1 65 rfl) rfl
theorem q186 : (Jvm.Cond.lays "RaisedPress$Bad" "java/lang/Throwable" "backtrace" "Ljava/lang/Object;") ∈ lw_all := lw_g (lw_at lw_m1 67 rfl) rfl
theorem q210 : (Jvm.Cond.instanceMethod ({ cls := "RaisedPress$Bad", name := "<init>", desc := "()V" } : Jvm.MethodName)) ∈ lw_all := lw_g (lw_at lw_m1 91 rfl) rfl
theorem q211 : (Jvm.Cond.code ({ cls := "RaisedPress$Bad", name := "<init>", desc := "()V" } : Jvm.MethodName) prog_4_method_1_code (1 : Nat) (Option.none : Option Jvm.ClassFile.FieldType)) ∈ lw_all := lw_g (lw_at lw_m1 92 rfl) rfl
theorem q212 : (Jvm.Cond.methodLink "RaisedPress$Bad" (1 : Nat) ({ cls := "java/lang/Exception", name := "<init>", desc := "(Ljava/lang/String;Ljava/lang/Throwable;ZZ)V" } : Jvm.MethodName)) ∈ lw_all := lw_g (lw_at lw_m1 93 rfl) rfl
theorem q218 : (Jvm.Cond.fieldLink "RaisedPress$Bad" (7 : Nat) "RaisedPress$Bad" "kind" "I") ∈ lw_all := lw_g (lw_at lw_m1 99 rfl) rfl
theorem q220 : (Jvm.Cond.fieldLink "RaisedPress$Bad" (13 : Nat) "RaisedPress$Bad" "place" "I") ∈ lw_all := lw_g (lw_at lw_m1 101 rfl) rfl
theorem q227 : (Jvm.Cond.lays "RaisedPress$Bad" "RaisedPress$Bad" "kind" "I") ∈ lw_all := lw_g (lw_at lw_m1 108 rfl) rfl
theorem q228 : (Jvm.Cond.soleField "RaisedPress$Bad" "kind") ∈ lw_all := lw_g (lw_at lw_m1 109 rfl) rfl
theorem q229 : (Jvm.Cond.lays "RaisedPress$Bad" "RaisedPress$Bad" "place" "I") ∈ lw_all := lw_g (lw_at lw_m1 110 rfl) rfl
theorem q230 : (Jvm.Cond.soleField "RaisedPress$Bad" "place") ∈ lw_all := lw_g (lw_at lw_m1 111 rfl) rfl
theorem q235 : (Jvm.Cond.lays "RaisedPress$Bad" "java/lang/Throwable" "depth" "I") ∈ lw_all := lw_g (lw_at lw_m1 116 rfl) rfl
theorem q238 : (Jvm.Cond.superclass "RaisedPress$Bad" "java/lang/Exception") ∈ lw_all := lw_g (lw_at lw_m1 119 rfl) rfl
theorem q745 : (Jvm.Cond.instanceMethod ({ cls := "RaisedPress$Bad", name := "at", desc := "(II)LRaisedPress$Bad;" } : Jvm.MethodName)) ∈ lw_all := lw_g (lw_at lw_m3 146 rfl) rfl
theorem q746 : (Jvm.Cond.selects "RaisedPress$Bad" ({ cls := "RaisedPress$Bad", name := "at", desc := "(II)LRaisedPress$Bad;" } : Jvm.MethodName) ({ cls := "RaisedPress$Bad", name := "at", desc := "(II)LRaisedPress$Bad;" } : Jvm.MethodName)) ∈ lw_all := lw_g (lw_at lw_m3 147 rfl) rfl
theorem q747 : (Jvm.Cond.code ({ cls := "RaisedPress$Bad", name := "at", desc := "(II)LRaisedPress$Bad;" } : Jvm.MethodName) prog_4_method_2_code (3 : Nat) (Option.some (Jvm.ClassFile.FieldType.object "RaisedPress$Bad"))) ∈ lw_all := lw_g (lw_at lw_m3 148 rfl) rfl
theorem in_X2 : ∀ w ∈ wsX20, w ∈ lw_all := lw_in wsX20 [178, 180, 182, 184, 186, 235, 227, 229] (by decide +kernel) (by decide +kernel)
/-! RaisedPress$Refused -/
set_option maxRecDepth 100000
def RX3 : String := "RaisedPress$Refused"
def TX3 : u_T := fun k => match k with
  | 0 => ("java/lang/Throwable", "cause", "Ljava/lang/Throwable;", false)
  | 1 => ("java/lang/Throwable", "stackTrace", "[Ljava/lang/StackTraceElement;", false)
  | 2 => ("java/lang/Throwable", "suppressedExceptions", "Ljava/util/List;", false)
  | 3 => ("java/lang/Throwable", "detailMessage", "Ljava/lang/String;", false)
  | 4 => ("java/lang/Throwable", "backtrace", "Ljava/lang/Object;", false)
  | 5 => ("java/lang/Throwable", "depth", "I", false)
  | _ => ("RaisedPress$Refused", "why", "I", false)
def tyX3 : Nat → FieldType := fun k => match k with
  | 0 => .object "java/lang/Throwable"
  | 1 => .array (.object "java/lang/StackTraceElement")
  | 2 => .object "java/util/List"
  | 3 => .object "java/lang/String"
  | 4 => .object "java/lang/Object"
  | 5 => .int
  | _ => .int
abbrev wsX30 : List Cond := u_ws RX3 TX3 7
theorem nmX3 : ∀ a, a < 7 → ∀ b, b < 7 → a ≠ b → (TX3 a).2.1 ≠ (TX3 b).2.1 := by decide +kernel
theorem tyX3_ok : ∀ k, k < 7 → parseFieldDescriptor (TX3 k).2.2.1 = some (tyX3 k) := by decide +kernel
abbrev cX3_init : ByteArray := prog_10_method_1_code
def yX3_init : MethodName := ⟨RX3, "<init>", "()V"⟩
def dkwX3_init_0 : List UInt8 := [42, 1, 1, 3, 3, 183, 0, 1, 177]
abbrev dktX3_init_0 : List UInt8 := dkwX3_init_0 ++ []
theorem dksX3_init_0 : cX3_init.data.toList.drop 0 = dktX3_init_0 := by decide +kernel
theorem dX3_init_0 : decode cX3_init 0 = .ok (.aload_n 0, 1) := dk_42 (dk_at dksX3_init_0 0 rfl rfl)
theorem dX3_init_1 : decode cX3_init 1 = .ok (.aconst_null, 1) := dk_1 (dk_at dksX3_init_0 1 rfl rfl)
theorem dX3_init_2 : decode cX3_init 2 = .ok (.aconst_null, 1) := dk_1 (dk_at dksX3_init_0 2 rfl rfl)
theorem dX3_init_3 : decode cX3_init 3 = .ok (.iconst 0, 1) := dk_3 (dk_at dksX3_init_0 3 rfl rfl)
theorem dX3_init_4 : decode cX3_init 4 = .ok (.iconst 0, 1) := dk_3 (dk_at dksX3_init_0 4 rfl rfl)
theorem dX3_init_5 : decode cX3_init 5 = .ok (.invokespecial 1, 3) := dk_183 0 1 (dk_at dksX3_init_0 5 rfl rfl)
theorem dX3_init_8 : decode cX3_init 8 = .ok (.return_, 1) := dk_177 (dk_at dksX3_init_0 8 rfl rfl)
abbrev cX3_by : ByteArray := prog_10_method_2_code
def yX3_by : MethodName := ⟨RX3, "by", "(I)LRaisedPress$Refused;"⟩
def dkwX3_by_0 : List UInt8 := [42, 27, 181, 0, 7, 42, 176]
abbrev dktX3_by_0 : List UInt8 := dkwX3_by_0 ++ []
theorem dksX3_by_0 : cX3_by.data.toList.drop 0 = dktX3_by_0 := by decide +kernel
theorem dX3_by_0 : decode cX3_by 0 = .ok (.aload_n 0, 1) := dk_42 (dk_at dksX3_by_0 0 rfl rfl)
theorem dX3_by_1 : decode cX3_by 1 = .ok (.iload_n 1, 1) := dk_27 (dk_at dksX3_by_0 1 rfl rfl)
theorem dX3_by_2 : decode cX3_by 2 = .ok (.putfield 7, 3) := dk_181 0 7 (dk_at dksX3_by_0 2 rfl rfl)
theorem dX3_by_5 : decode cX3_by 5 = .ok (.aload_n 0, 1) := dk_42 (dk_at dksX3_by_0 5 rfl rfl)
theorem dX3_by_6 : decode cX3_by 6 = .ok (.areturn, 1) := dk_176 (dk_at dksX3_by_0 6 rfl rfl)
theorem q125 : (Jvm.Cond.initialized "RaisedPress$Refused") ∈ lw_all := lw_g (lw_at lw_m1 6 rfl) rfl
theorem q200 : (Jvm.Cond.selects "RaisedPress$Refused" ({ cls := "java/lang/Throwable", name := "fillInStackTrace", desc := "()Ljava/lang/Throwable;" } : Jvm.MethodName) ({ cls := "java/lang/Throwable", name := "fillInStackTrace", desc := "()Ljava/lang/Throwable;" } : Jvm.MethodName)) ∈ lw_all := lw_g (lw_at lw_m1 81 rfl) rfl
theorem q240 : (Jvm.Cond.instantiable "RaisedPress$Refused" (7 : Nat)) ∈ lw_all := lw_g (lw_at lw_m1 121 rfl) rfl
theorem q241 : (Jvm.Cond.castable "RaisedPress$Refused" "RaisedPress$Refused") ∈ lw_tbl := lw_at lw_m1 122 rfl
theorem q242 : (Jvm.Cond.selects "RaisedPress$Refused" ({ cls := "java/lang/Throwable", name := "fillInStackTrace", desc := "(I)Ljava/lang/Throwable;" } : Jvm.MethodName) ({ cls := "java/lang/Throwable", name := "fillInStackTrace", desc := "(I)Ljava/lang/Throwable;" } : Jvm.MethodName)) ∈ lw_all := lw_g (lw_at lw_m1 123 rfl) rfl
theorem q243 : (Jvm.Cond.lays "RaisedPress$Refused" "java/lang/Throwable" "cause" "Ljava/lang/Throwable;") ∈ lw_all := lw_g (lw_at lw_m1 124 rfl) rfl
theorem q244 : (Jvm.Cond.lays "RaisedPress$Refused" "java/lang/Throwable" "stackTrace" "[Ljava/lang/StackTraceElement;") ∈ lw_all := lw_g (lw_at lw_m1 125 rfl) rfl
theorem q245 : (Jvm.Cond.lays "RaisedPress$Refused" "java/lang/Throwable" "suppressedExceptions" "Ljava/util/List;") ∈ lw_all := lw_g (lw_at lw_m1 126 rfl) rfl
theorem q246 : (Jvm.Cond.lays "RaisedPress$Refused" "java/lang/Throwable" "detailMessage" "Ljava/lang/String;") ∈ lw_all := lw_g (lw_at lw_m1 127 rfl) rfl
theorem q247 : (Jvm.Cond.lays "RaisedPress$Refused" "java/lang/Throwable" "backtrace" "Ljava/lang/Object;") ∈ lw_all := lw_g (lw_at lw_m1 128 rfl) rfl
theorem q249 : (Jvm.Cond.instanceMethod ({ cls := "RaisedPress$Refused", name := "<init>", desc := "()V" } : Jvm.MethodName)) ∈ lw_all := lw_g (lw_at lw_m1 130 rfl) rfl
theorem q250 : (Jvm.Cond.code ({ cls := "RaisedPress$Refused", name := "<init>", desc := "()V" } : Jvm.MethodName) prog_10_method_1_code (1 : Nat) (Option.none : Option Jvm.ClassFile.FieldType)) ∈ lw_all := lw_g (lw_at lw_m1 131 rfl) rfl
theorem q251 : (Jvm.Cond.methodLink "RaisedPress$Refused" (1 : Nat) ({ cls := "java/lang/Exception", name := "<init>", desc := "(Ljava/lang/String;Ljava/lang/Throwable;ZZ)V" } : Jvm.MethodName)) ∈ lw_all := lw_g (lw_at lw_m1 132 rfl) rfl
theorem q252 : (Jvm.Cond.fieldLink "RaisedPress$Refused" (7 : Nat) "RaisedPress$Refused" "why" "I") ∈ lw_all := lw_g (lw_at lw_m1 133 rfl) rfl
theorem q254 : (Jvm.Cond.lays "RaisedPress$Refused" "RaisedPress$Refused" "why" "I") ∈ lw_all := lw_g (lw_at lw_m1 135 rfl) rfl
theorem q255 : (Jvm.Cond.soleField "RaisedPress$Refused" "why") ∈ lw_all := lw_g (lw_at lw_m1 136 rfl) rfl
theorem q256 : (Jvm.Cond.lays "RaisedPress$Refused" "java/lang/Throwable" "depth" "I") ∈ lw_all := lw_g (lw_at lw_m1 137 rfl) rfl
theorem q257 : (Jvm.Cond.superclass "RaisedPress$Refused" "java/lang/Exception") ∈ lw_all := lw_g (lw_at lw_m1 138 rfl) rfl
theorem q544 : (Jvm.Cond.instanceMethod ({ cls := "RaisedPress$Refused", name := "by", desc := "(I)LRaisedPress$Refused;" } : Jvm.MethodName)) ∈ lw_all := lw_g (lw_at lw_m2 185 rfl) rfl
theorem q545 : (Jvm.Cond.selects "RaisedPress$Refused" ({ cls := "RaisedPress$Refused", name := "by", desc := "(I)LRaisedPress$Refused;" } : Jvm.MethodName) ({ cls := "RaisedPress$Refused", name := "by", desc := "(I)LRaisedPress$Refused;" } : Jvm.MethodName)) ∈ lw_all := lw_g (lw_at lw_m2 186 rfl) rfl
theorem q546 : (Jvm.Cond.code ({ cls := "RaisedPress$Refused", name := "by", desc := "(I)LRaisedPress$Refused;" } : Jvm.MethodName) prog_10_method_2_code (2 : Nat) (Option.some (Jvm.ClassFile.FieldType.object "RaisedPress$Refused"))) ∈ lw_all := lw_g (lw_at lw_m2 187 rfl) rfl
theorem in_X3 : ∀ w ∈ wsX30, w ∈ lw_all := lw_in wsX30 [243, 244, 245, 246, 247, 256, 254] (by decide +kernel) (by decide +kernel)
/-! RaisedPress$House -/
set_option maxRecDepth 100000
def RX4 : String := "RaisedPress$House"
def TX4 : u_T := fun k => match k with
  | 0 => ("RaisedPress$House", "table", "LRaisedPress$Table;", false)
  | 1 => ("RaisedPress$House", "dropped", "I", false)
  | _ => ("RaisedPress$House", "writing", "LRaisedPress$Writing;", false)
def tyX4 : Nat → FieldType := fun k => match k with
  | 0 => .object "RaisedPress$Table"
  | 1 => .int
  | _ => .object "RaisedPress$Writing"
abbrev wsX40 : List Cond := u_ws RX4 TX4 3
theorem nmX4 : ∀ a, a < 3 → ∀ b, b < 3 → a ≠ b → (TX4 a).2.1 ≠ (TX4 b).2.1 := by decide +kernel
theorem tyX4_ok : ∀ k, k < 3 → parseFieldDescriptor (TX4 k).2.2.1 = some (tyX4 k) := by decide +kernel
abbrev cX4_init : ByteArray := prog_7_method_1_code
def yX4_init : MethodName := ⟨RX4, "<init>", "()V"⟩
def dkwX4_init_0 : List UInt8 := [42, 183, 0, 1, 42, 187, 0, 7, 89, 183, 0, 9, 181, 0, 10, 177]
abbrev dktX4_init_0 : List UInt8 := dkwX4_init_0 ++ []
theorem dksX4_init_0 : cX4_init.data.toList.drop 0 = dktX4_init_0 := by decide +kernel
theorem dX4_init_0 : decode cX4_init 0 = .ok (.aload_n 0, 1) := dk_42 (dk_at dksX4_init_0 0 rfl rfl)
theorem dX4_init_1 : decode cX4_init 1 = .ok (.invokespecial 1, 3) := dk_183 0 1 (dk_at dksX4_init_0 1 rfl rfl)
theorem dX4_init_4 : decode cX4_init 4 = .ok (.aload_n 0, 1) := dk_42 (dk_at dksX4_init_0 4 rfl rfl)
theorem dX4_init_5 : decode cX4_init 5 = .ok (.new 7, 3) := dk_187 0 7 (dk_at dksX4_init_0 5 rfl rfl)
theorem dX4_init_8 : decode cX4_init 8 = .ok (.dup, 1) := dk_89 (dk_at dksX4_init_0 8 rfl rfl)
theorem dX4_init_9 : decode cX4_init 9 = .ok (.invokespecial 9, 3) := dk_183 0 9 (dk_at dksX4_init_0 9 rfl rfl)
theorem dX4_init_12 : decode cX4_init 12 = .ok (.putfield 10, 3) := dk_181 0 10 (dk_at dksX4_init_0 12 rfl rfl)
theorem dX4_init_15 : decode cX4_init 15 = .ok (.return_, 1) := dk_177 (dk_at dksX4_init_0 15 rfl rfl)
abbrev cX4_be : ByteArray := prog_7_method_2_code
def yX4_be : MethodName := ⟨RX4, "be", "(LRaisedPress$House;)V"⟩
def dkwX4_be_1 : List UInt8 := [177]
abbrev dktX4_be_1 : List UInt8 := dkwX4_be_1 ++ []
def dkwX4_be_0 : List UInt8 := [42, 43, 180, 0, 10, 181, 0, 10, 42, 43, 180, 0, 16, 181, 0, 16, 42, 43, 180, 0, 20, 181, 0, 20]
abbrev dktX4_be_0 : List UInt8 := dkwX4_be_0 ++ dktX4_be_1
theorem dksX4_be_0 : cX4_be.data.toList.drop 0 = dktX4_be_0 := by decide +kernel
theorem dksX4_be_1 : cX4_be.data.toList.drop 24 = dktX4_be_1 := dk_seg dksX4_be_0 24 rfl rfl
theorem dX4_be_0 : decode cX4_be 0 = .ok (.aload_n 0, 1) := dk_42 (dk_at dksX4_be_0 0 rfl rfl)
theorem dX4_be_1 : decode cX4_be 1 = .ok (.aload_n 1, 1) := dk_43 (dk_at dksX4_be_0 1 rfl rfl)
theorem dX4_be_2 : decode cX4_be 2 = .ok (.getfield 10, 3) := dk_180 0 10 (dk_at dksX4_be_0 2 rfl rfl)
theorem dX4_be_5 : decode cX4_be 5 = .ok (.putfield 10, 3) := dk_181 0 10 (dk_at dksX4_be_0 5 rfl rfl)
theorem dX4_be_8 : decode cX4_be 8 = .ok (.aload_n 0, 1) := dk_42 (dk_at dksX4_be_0 8 rfl rfl)
theorem dX4_be_9 : decode cX4_be 9 = .ok (.aload_n 1, 1) := dk_43 (dk_at dksX4_be_0 9 rfl rfl)
theorem dX4_be_10 : decode cX4_be 10 = .ok (.getfield 16, 3) := dk_180 0 16 (dk_at dksX4_be_0 10 rfl rfl)
theorem dX4_be_13 : decode cX4_be 13 = .ok (.putfield 16, 3) := dk_181 0 16 (dk_at dksX4_be_0 13 rfl rfl)
theorem dX4_be_16 : decode cX4_be 16 = .ok (.aload_n 0, 1) := dk_42 (dk_at dksX4_be_0 16 rfl rfl)
theorem dX4_be_17 : decode cX4_be 17 = .ok (.aload_n 1, 1) := dk_43 (dk_at dksX4_be_0 17 rfl rfl)
theorem dX4_be_18 : decode cX4_be 18 = .ok (.getfield 20, 3) := dk_180 0 20 (dk_at dksX4_be_0 18 rfl rfl)
theorem dX4_be_21 : decode cX4_be 21 = .ok (.putfield 20, 3) := dk_181 0 20 (dk_at dksX4_be_0 21 rfl rfl)
theorem dX4_be_24 : decode cX4_be 24 = .ok (.return_, 1) := dk_177 (dk_at dksX4_be_1 0 rfl rfl)
theorem q126 : (Jvm.Cond.initialized "RaisedPress$House") ∈ lw_all := lw_g (lw_at lw_m1 7 rfl) rfl
theorem q260 : (Jvm.Cond.instantiable "RaisedPress$House" (3 : Nat)) ∈ lw_all := lw_g (lw_at lw_m1 141 rfl) rfl
theorem q262 : (Jvm.Cond.instanceMethod ({ cls := "RaisedPress$House", name := "<init>", desc := "()V" } : Jvm.MethodName)) ∈ lw_all := lw_g (lw_at lw_m1 143 rfl) rfl
theorem q263 : (Jvm.Cond.code ({ cls := "RaisedPress$House", name := "<init>", desc := "()V" } : Jvm.MethodName) prog_7_method_1_code (1 : Nat) (Option.none : Option Jvm.ClassFile.FieldType)) ∈ lw_all := lw_g (lw_at lw_m1 144 rfl) rfl
theorem q264 : (Jvm.Cond.methodLink "RaisedPress$House" (1 : Nat) ({ cls := "java/lang/Object", name := "<init>", desc := "()V" } : Jvm.MethodName)) ∈ lw_all := lw_g (lw_at lw_m1 145 rfl) rfl
theorem q265 : (Jvm.Cond.classLink "RaisedPress$House" (7 : Nat) "RaisedPress$Table") ∈ lw_all := lw_g (lw_at lw_m1 146 rfl) rfl
theorem q267 : (Jvm.Cond.methodLinkNest "RaisedPress$House" (9 : Nat) ({ cls := "RaisedPress$Table", name := "<init>", desc := "()V" } : Jvm.MethodName) "RaisedPress") ∈ lw_tbl := lw_at lw_m1 148 rfl
theorem q314 : (Jvm.Cond.fieldLink "RaisedPress$House" (10 : Nat) "RaisedPress$House" "table" "LRaisedPress$Table;") ∈ lw_all := lw_g (lw_at lw_m1 195 rfl) rfl
theorem q316 : (Jvm.Cond.fieldLink "RaisedPress$House" (16 : Nat) "RaisedPress$House" "dropped" "I") ∈ lw_all := lw_g (lw_at lw_m1 197 rfl) rfl
theorem q318 : (Jvm.Cond.fieldLink "RaisedPress$House" (20 : Nat) "RaisedPress$House" "writing" "LRaisedPress$Writing;") ∈ lw_all := lw_g (lw_at lw_m1 199 rfl) rfl
theorem q320 : (Jvm.Cond.lays "RaisedPress$House" "RaisedPress$House" "table" "LRaisedPress$Table;") ∈ lw_all := lw_g (lw_at lw_m1 201 rfl) rfl
theorem q321 : (Jvm.Cond.soleField "RaisedPress$House" "table") ∈ lw_all := lw_g (lw_at lw_m1 202 rfl) rfl
theorem q322 : (Jvm.Cond.lays "RaisedPress$House" "RaisedPress$House" "dropped" "I") ∈ lw_all := lw_g (lw_at lw_m1 203 rfl) rfl
theorem q323 : (Jvm.Cond.soleField "RaisedPress$House" "dropped") ∈ lw_all := lw_g (lw_at lw_m1 204 rfl) rfl
theorem q324 : (Jvm.Cond.lays "RaisedPress$House" "RaisedPress$House" "writing" "LRaisedPress$Writing;") ∈ lw_all := lw_g (lw_at lw_m1 205 rfl) rfl
theorem q325 : (Jvm.Cond.soleField "RaisedPress$House" "writing") ∈ lw_all := lw_g (lw_at lw_m1 206 rfl) rfl
theorem q326 : (Jvm.Cond.superclass "RaisedPress$House" "java/lang/Object") ∈ lw_all := lw_g (lw_at lw_m1 207 rfl) rfl
theorem q1467 : (Jvm.Cond.instanceMethod ({ cls := "RaisedPress$House", name := "be", desc := "(LRaisedPress$House;)V" } : Jvm.MethodName)) ∈ lw_all := lw_g (lw_at lw_m6 148 rfl) rfl
theorem q1468 : (Jvm.Cond.selects "RaisedPress$House" ({ cls := "RaisedPress$House", name := "be", desc := "(LRaisedPress$House;)V" } : Jvm.MethodName) ({ cls := "RaisedPress$House", name := "be", desc := "(LRaisedPress$House;)V" } : Jvm.MethodName)) ∈ lw_all := lw_g (lw_at lw_m6 149 rfl) rfl
theorem q1469 : (Jvm.Cond.code ({ cls := "RaisedPress$House", name := "be", desc := "(LRaisedPress$House;)V" } : Jvm.MethodName) prog_7_method_2_code (2 : Nat) (Option.none : Option Jvm.ClassFile.FieldType)) ∈ lw_all := lw_g (lw_at lw_m6 150 rfl) rfl
theorem in_X4 : ∀ w ∈ wsX40, w ∈ lw_all := lw_in wsX40 [320, 322, 324] (by decide +kernel) (by decide +kernel)
/-! RaisedPress$Table -/
set_option maxRecDepth 100000
def RX5 : String := "RaisedPress$Table"
def TX5 : u_T := fun k => match k with
  | 0 => ("RaisedPress$Table", "rules", "[LRaisedPress$Rule;", true)
  | 1 => ("RaisedPress$Table", "size", "I", false)
  | 2 => ("RaisedPress$Table", "capital", "I", false)
  | 3 => ("RaisedPress$Table", "number", "I", false)
  | 4 => ("RaisedPress$Table", "hyphen", "I", false)
  | 5 => ("RaisedPress$Table", "line", "I", false)
  | _ => ("RaisedPress$Table", "page", "I", false)
def tyX5 : Nat → FieldType := fun k => match k with
  | 0 => .array (.object "RaisedPress$Rule")
  | 1 => .int
  | 2 => .int
  | 3 => .int
  | 4 => .int
  | 5 => .int
  | _ => .int
abbrev wsX50 : List Cond := u_ws RX5 TX5 7
theorem nmX5 : ∀ a, a < 7 → ∀ b, b < 7 → a ≠ b → (TX5 a).2.1 ≠ (TX5 b).2.1 := by decide +kernel
theorem tyX5_ok : ∀ k, k < 7 → parseFieldDescriptor (TX5 k).2.2.1 = some (tyX5 k) := by decide +kernel
abbrev cX5_init : ByteArray := prog_13_method_1_code
def yX5_init : MethodName := ⟨RX5, "<init>", "()V"⟩
def dkwX5_init_1 : List UInt8 := [2, 181, 0, 24, 42, 16, 32, 181, 0, 27, 42, 16, 25, 181, 0, 30, 177]
abbrev dktX5_init_1 : List UInt8 := dkwX5_init_1 ++ []
def dkwX5_init_0 : List UInt8 := [42, 183, 0, 3, 42, 16, 24, 189, 0, 9, 181, 0, 11, 42, 2, 181, 0, 17, 42, 2, 181, 0, 21, 42]
abbrev dktX5_init_0 : List UInt8 := dkwX5_init_0 ++ dktX5_init_1
theorem dksX5_init_0 : cX5_init.data.toList.drop 0 = dktX5_init_0 := by decide +kernel
theorem dksX5_init_1 : cX5_init.data.toList.drop 24 = dktX5_init_1 := dk_seg dksX5_init_0 24 rfl rfl
theorem dX5_init_0 : decode cX5_init 0 = .ok (.aload_n 0, 1) := dk_42 (dk_at dksX5_init_0 0 rfl rfl)
theorem dX5_init_1 : decode cX5_init 1 = .ok (.invokespecial 3, 3) := dk_183 0 3 (dk_at dksX5_init_0 1 rfl rfl)
theorem dX5_init_4 : decode cX5_init 4 = .ok (.aload_n 0, 1) := dk_42 (dk_at dksX5_init_0 4 rfl rfl)
theorem dX5_init_5 : decode cX5_init 5 = .ok (.bipush 24, 2) := dk_16 24 (dk_at dksX5_init_0 5 rfl rfl)
theorem dX5_init_7 : decode cX5_init 7 = .ok (.anewarray 9, 3) := dk_189 0 9 (dk_at dksX5_init_0 7 rfl rfl)
theorem dX5_init_10 : decode cX5_init 10 = .ok (.putfield 11, 3) := dk_181 0 11 (dk_at dksX5_init_0 10 rfl rfl)
theorem dX5_init_13 : decode cX5_init 13 = .ok (.aload_n 0, 1) := dk_42 (dk_at dksX5_init_0 13 rfl rfl)
theorem dX5_init_14 : decode cX5_init 14 = .ok (.iconst (-1), 1) := dk_2 (dk_at dksX5_init_0 14 rfl rfl)
theorem dX5_init_15 : decode cX5_init 15 = .ok (.putfield 17, 3) := dk_181 0 17 (dk_at dksX5_init_0 15 rfl rfl)
theorem dX5_init_18 : decode cX5_init 18 = .ok (.aload_n 0, 1) := dk_42 (dk_at dksX5_init_0 18 rfl rfl)
theorem dX5_init_19 : decode cX5_init 19 = .ok (.iconst (-1), 1) := dk_2 (dk_at dksX5_init_0 19 rfl rfl)
theorem dX5_init_20 : decode cX5_init 20 = .ok (.putfield 21, 3) := dk_181 0 21 (dk_at dksX5_init_0 20 rfl rfl)
theorem dX5_init_23 : decode cX5_init 23 = .ok (.aload_n 0, 1) := dk_42 (dk_at dksX5_init_0 23 rfl rfl)
theorem dX5_init_24 : decode cX5_init 24 = .ok (.iconst (-1), 1) := dk_2 (dk_at dksX5_init_1 0 rfl rfl)
theorem dX5_init_25 : decode cX5_init 25 = .ok (.putfield 24, 3) := dk_181 0 24 (dk_at dksX5_init_1 1 rfl rfl)
theorem dX5_init_28 : decode cX5_init 28 = .ok (.aload_n 0, 1) := dk_42 (dk_at dksX5_init_1 4 rfl rfl)
theorem dX5_init_29 : decode cX5_init 29 = .ok (.bipush 32, 2) := dk_16 32 (dk_at dksX5_init_1 5 rfl rfl)
theorem dX5_init_31 : decode cX5_init 31 = .ok (.putfield 27, 3) := dk_181 0 27 (dk_at dksX5_init_1 7 rfl rfl)
theorem dX5_init_34 : decode cX5_init 34 = .ok (.aload_n 0, 1) := dk_42 (dk_at dksX5_init_1 10 rfl rfl)
theorem dX5_init_35 : decode cX5_init 35 = .ok (.bipush 25, 2) := dk_16 25 (dk_at dksX5_init_1 11 rfl rfl)
theorem dX5_init_37 : decode cX5_init 37 = .ok (.putfield 30, 3) := dk_181 0 30 (dk_at dksX5_init_1 13 rfl rfl)
theorem dX5_init_40 : decode cX5_init 40 = .ok (.return_, 1) := dk_177 (dk_at dksX5_init_1 16 rfl rfl)
theorem q127 : (Jvm.Cond.initialized "RaisedPress$Table") ∈ lw_all := lw_g (lw_at lw_m1 8 rfl) rfl
theorem q266 : (Jvm.Cond.instantiable "RaisedPress$Table" (7 : Nat)) ∈ lw_all := lw_g (lw_at lw_m1 147 rfl) rfl
theorem q268 : (Jvm.Cond.instanceMethod ({ cls := "RaisedPress$Table", name := "<init>", desc := "()V" } : Jvm.MethodName)) ∈ lw_all := lw_g (lw_at lw_m1 149 rfl) rfl
theorem q269 : (Jvm.Cond.code ({ cls := "RaisedPress$Table", name := "<init>", desc := "()V" } : Jvm.MethodName) prog_13_method_1_code (1 : Nat) (Option.none : Option Jvm.ClassFile.FieldType)) ∈ lw_all := lw_g (lw_at lw_m1 150 rfl) rfl
theorem q270 : (Jvm.Cond.methodLink "RaisedPress$Table" (3 : Nat) ({ cls := "java/lang/Object", name := "<init>", desc := "()V" } : Jvm.MethodName)) ∈ lw_all := lw_g (lw_at lw_m1 151 rfl) rfl
theorem q271 : (Jvm.Cond.classLink "RaisedPress$Table" (9 : Nat) "RaisedPress$Rule") ∈ lw_all := lw_g (lw_at lw_m1 152 rfl) rfl
theorem q273 : (Jvm.Cond.fieldLink "RaisedPress$Table" (11 : Nat) "RaisedPress$Table" "rules" "[LRaisedPress$Rule;") ∈ lw_all := lw_g (lw_at lw_m1 154 rfl) rfl
theorem q280 : (Jvm.Cond.fieldLink "RaisedPress$Table" (17 : Nat) "RaisedPress$Table" "capital" "I") ∈ lw_all := lw_g (lw_at lw_m1 161 rfl) rfl
theorem q284 : (Jvm.Cond.fieldLink "RaisedPress$Table" (21 : Nat) "RaisedPress$Table" "number" "I") ∈ lw_all := lw_g (lw_at lw_m1 165 rfl) rfl
theorem q288 : (Jvm.Cond.fieldLink "RaisedPress$Table" (24 : Nat) "RaisedPress$Table" "hyphen" "I") ∈ lw_all := lw_g (lw_at lw_m1 169 rfl) rfl
theorem q292 : (Jvm.Cond.fieldLink "RaisedPress$Table" (27 : Nat) "RaisedPress$Table" "line" "I") ∈ lw_all := lw_g (lw_at lw_m1 173 rfl) rfl
theorem q296 : (Jvm.Cond.fieldLink "RaisedPress$Table" (30 : Nat) "RaisedPress$Table" "page" "I") ∈ lw_all := lw_g (lw_at lw_m1 177 rfl) rfl
theorem q299 : (Jvm.Cond.laysFinal "RaisedPress$Table" "RaisedPress$Table" "rules" "[LRaisedPress$Rule;") ∈ lw_all := lw_g (lw_at lw_m1 180 rfl) rfl
theorem q300 : (Jvm.Cond.soleField "RaisedPress$Table" "rules") ∈ lw_all := lw_g (lw_at lw_m1 181 rfl) rfl
theorem q301 : (Jvm.Cond.lays "RaisedPress$Table" "RaisedPress$Table" "size" "I") ∈ lw_all := lw_g (lw_at lw_m1 182 rfl) rfl
theorem q302 : (Jvm.Cond.soleField "RaisedPress$Table" "size") ∈ lw_all := lw_g (lw_at lw_m1 183 rfl) rfl
theorem q303 : (Jvm.Cond.lays "RaisedPress$Table" "RaisedPress$Table" "capital" "I") ∈ lw_all := lw_g (lw_at lw_m1 184 rfl) rfl
theorem q304 : (Jvm.Cond.soleField "RaisedPress$Table" "capital") ∈ lw_all := lw_g (lw_at lw_m1 185 rfl) rfl
theorem q305 : (Jvm.Cond.lays "RaisedPress$Table" "RaisedPress$Table" "number" "I") ∈ lw_all := lw_g (lw_at lw_m1 186 rfl) rfl
theorem q306 : (Jvm.Cond.soleField "RaisedPress$Table" "number") ∈ lw_all := lw_g (lw_at lw_m1 187 rfl) rfl
theorem q307 : (Jvm.Cond.lays "RaisedPress$Table" "RaisedPress$Table" "hyphen" "I") ∈ lw_all := lw_g (lw_at lw_m1 188 rfl) rfl
theorem q308 : (Jvm.Cond.soleField "RaisedPress$Table" "hyphen") ∈ lw_all := lw_g (lw_at lw_m1 189 rfl) rfl
theorem q309 : (Jvm.Cond.lays "RaisedPress$Table" "RaisedPress$Table" "line" "I") ∈ lw_all := lw_g (lw_at lw_m1 190 rfl) rfl
theorem q310 : (Jvm.Cond.soleField "RaisedPress$Table" "line") ∈ lw_all := lw_g (lw_at lw_m1 191 rfl) rfl
theorem q311 : (Jvm.Cond.lays "RaisedPress$Table" "RaisedPress$Table" "page" "I") ∈ lw_all := lw_g (lw_at lw_m1 192 rfl) rfl
theorem q312 : (Jvm.Cond.soleField "RaisedPress$Table" "page") ∈ lw_all := lw_g (lw_at lw_m1 193 rfl) rfl
theorem q313 : (Jvm.Cond.superclass "RaisedPress$Table" "java/lang/Object") ∈ lw_all := lw_g (lw_at lw_m1 194 rfl) rfl
theorem in_X5 : ∀ w ∈ wsX50, w ∈ lw_all := lw_in wsX50 [299, 301, 303, 305, 307, 309, 311] (by decide +kernel) (by decide +kernel)
/-! RaisedPress$Setter -/
set_option maxRecDepth 100000
def RX6 : String := "RaisedPress$Setter"
def TX6 : u_T := fun k => match k with
  | 0 => ("RaisedPress$Setter", "table", "LRaisedPress$Table;", true)
  | 1 => ("RaisedPress$Setter", "dropped", "I", false)
  | 2 => ("RaisedPress$Setter", "bytes", "[B", false)
  | 3 => ("RaisedPress$Setter", "size", "I", false)
  | 4 => ("RaisedPress$Setter", "cells", "I", false)
  | 5 => ("RaisedPress$Setter", "pieces", "I", false)
  | 6 => ("RaisedPress$Setter", "all", "I", false)
  | 7 => ("RaisedPress$Setter", "lettered", "I", false)
  | 8 => ("RaisedPress$Setter", "cell", "[I", true)
  | 9 => ("RaisedPress$Setter", "pieceAt", "[I", true)
  | 10 => ("RaisedPress$Setter", "pieceMany", "[I", true)
  | 11 => ("RaisedPress$Setter", "pieceLine", "[I", true)
  | 12 => ("RaisedPress$Setter", "pieceEnd", "[I", true)
  | 13 => ("RaisedPress$Setter", "cellBy", "[I", true)
  | 14 => ("RaisedPress$Setter", "used", "[I", true)
  | 15 => ("RaisedPress$Setter", "laid", "[I", true)
  | 16 => ("RaisedPress$Setter", "lineAt", "[I", true)
  | 17 => ("RaisedPress$Setter", "laidMany", "I", false)
  | 18 => ("RaisedPress$Setter", "lines", "I", false)
  | 19 => ("RaisedPress$Setter", "hyphens", "I", false)
  | 20 => ("RaisedPress$Setter", "fewest", "[I", true)
  | _ => ("RaisedPress$Setter", "this$0", "LRaisedPress;", true)
def tyX6 : Nat → FieldType := fun k => match k with
  | 0 => .object "RaisedPress$Table"
  | 1 => .int
  | 2 => .array .byte
  | 3 => .int
  | 4 => .int
  | 5 => .int
  | 6 => .int
  | 7 => .int
  | 8 => .array .int
  | 9 => .array .int
  | 10 => .array .int
  | 11 => .array .int
  | 12 => .array .int
  | 13 => .array .int
  | 14 => .array .int
  | 15 => .array .int
  | 16 => .array .int
  | 17 => .int
  | 18 => .int
  | 19 => .int
  | 20 => .array .int
  | _ => .object "RaisedPress"
abbrev wsX60 : List Cond := u_ws RX6 TX6 22
set_option maxRecDepth 100000 in
theorem nmX6 : ∀ a, a < 22 → ∀ b, b < 22 → a ≠ b → (TX6 a).2.1 ≠ (TX6 b).2.1 := by decide +kernel
set_option maxRecDepth 100000 in
theorem tyX6_ok : ∀ k, k < 22 → parseFieldDescriptor (TX6 k).2.2.1 = some (tyX6 k) := by decide +kernel
abbrev cX6_init : ByteArray := prog_12_method_1_code
def yX6_init : MethodName := ⟨RX6, "<init>", "(LRaisedPress;LRaisedPress$Table;)V"⟩
def dkwX6_init_4 : List UInt8 := [17, 1, 45, 188, 10, 181, 0, 43, 42, 44, 181, 0, 46, 177]
abbrev dktX6_init_4 : List UInt8 := dkwX6_init_4 ++ []
def dkwX6_init_3 : List UInt8 := [181, 0, 34, 42, 17, 7, 208, 188, 10, 181, 0, 37, 42, 17, 3, 32, 188, 10, 181, 0, 40, 42]
abbrev dktX6_init_3 : List UInt8 := dkwX6_init_3 ++ dktX6_init_4
def dkwX6_init_2 : List UInt8 := [17, 1, 45, 188, 10, 181, 0, 28, 42, 17, 5, 120, 188, 10, 181, 0, 31, 42, 16, 24, 188, 10]
abbrev dktX6_init_2 : List UInt8 := dkwX6_init_2 ++ dktX6_init_3
def dkwX6_init_1 : List UInt8 := [181, 0, 19, 42, 17, 1, 45, 188, 10, 181, 0, 22, 42, 17, 1, 45, 188, 10, 181, 0, 25, 42]
abbrev dktX6_init_1 : List UInt8 := dkwX6_init_1 ++ dktX6_init_2
def dkwX6_init_0 : List UInt8 := [42, 43, 181, 0, 3, 42, 183, 0, 9, 42, 17, 5, 120, 188, 10, 181, 0, 15, 42, 17, 1, 45, 188, 10]
abbrev dktX6_init_0 : List UInt8 := dkwX6_init_0 ++ dktX6_init_1
theorem dksX6_init_0 : cX6_init.data.toList.drop 0 = dktX6_init_0 := by decide +kernel
theorem dksX6_init_1 : cX6_init.data.toList.drop 24 = dktX6_init_1 := dk_seg dksX6_init_0 24 rfl rfl
theorem dksX6_init_2 : cX6_init.data.toList.drop 46 = dktX6_init_2 := dk_seg dksX6_init_1 22 rfl rfl
theorem dksX6_init_3 : cX6_init.data.toList.drop 68 = dktX6_init_3 := dk_seg dksX6_init_2 22 rfl rfl
theorem dksX6_init_4 : cX6_init.data.toList.drop 90 = dktX6_init_4 := dk_seg dksX6_init_3 22 rfl rfl
theorem dX6_init_0 : decode cX6_init 0 = .ok (.aload_n 0, 1) := dk_42 (dk_at dksX6_init_0 0 rfl rfl)
theorem dX6_init_1 : decode cX6_init 1 = .ok (.aload_n 1, 1) := dk_43 (dk_at dksX6_init_0 1 rfl rfl)
theorem dX6_init_2 : decode cX6_init 2 = .ok (.putfield 3, 3) := dk_181 0 3 (dk_at dksX6_init_0 2 rfl rfl)
theorem dX6_init_5 : decode cX6_init 5 = .ok (.aload_n 0, 1) := dk_42 (dk_at dksX6_init_0 5 rfl rfl)
theorem dX6_init_6 : decode cX6_init 6 = .ok (.invokespecial 9, 3) := dk_183 0 9 (dk_at dksX6_init_0 6 rfl rfl)
theorem dX6_init_9 : decode cX6_init 9 = .ok (.aload_n 0, 1) := dk_42 (dk_at dksX6_init_0 9 rfl rfl)
theorem dX6_init_10 : decode cX6_init 10 = .ok (.sipush 1400, 3) := dk_17 5 120 (dk_at dksX6_init_0 10 rfl rfl)
theorem dX6_init_13 : decode cX6_init 13 = .ok (.newarray .int, 2) := dk_188_10 (dk_at dksX6_init_0 13 rfl rfl)
theorem dX6_init_15 : decode cX6_init 15 = .ok (.putfield 15, 3) := dk_181 0 15 (dk_at dksX6_init_0 15 rfl rfl)
theorem dX6_init_18 : decode cX6_init 18 = .ok (.aload_n 0, 1) := dk_42 (dk_at dksX6_init_0 18 rfl rfl)
theorem dX6_init_19 : decode cX6_init 19 = .ok (.sipush 301, 3) := dk_17 1 45 (dk_at dksX6_init_0 19 rfl rfl)
theorem dX6_init_22 : decode cX6_init 22 = .ok (.newarray .int, 2) := dk_188_10 (dk_at dksX6_init_0 22 rfl rfl)
theorem dX6_init_24 : decode cX6_init 24 = .ok (.putfield 19, 3) := dk_181 0 19 (dk_at dksX6_init_1 0 rfl rfl)
theorem dX6_init_27 : decode cX6_init 27 = .ok (.aload_n 0, 1) := dk_42 (dk_at dksX6_init_1 3 rfl rfl)
theorem dX6_init_28 : decode cX6_init 28 = .ok (.sipush 301, 3) := dk_17 1 45 (dk_at dksX6_init_1 4 rfl rfl)
theorem dX6_init_31 : decode cX6_init 31 = .ok (.newarray .int, 2) := dk_188_10 (dk_at dksX6_init_1 7 rfl rfl)
theorem dX6_init_33 : decode cX6_init 33 = .ok (.putfield 22, 3) := dk_181 0 22 (dk_at dksX6_init_1 9 rfl rfl)
theorem dX6_init_36 : decode cX6_init 36 = .ok (.aload_n 0, 1) := dk_42 (dk_at dksX6_init_1 12 rfl rfl)
theorem dX6_init_37 : decode cX6_init 37 = .ok (.sipush 301, 3) := dk_17 1 45 (dk_at dksX6_init_1 13 rfl rfl)
theorem dX6_init_40 : decode cX6_init 40 = .ok (.newarray .int, 2) := dk_188_10 (dk_at dksX6_init_1 16 rfl rfl)
theorem dX6_init_42 : decode cX6_init 42 = .ok (.putfield 25, 3) := dk_181 0 25 (dk_at dksX6_init_1 18 rfl rfl)
theorem dX6_init_45 : decode cX6_init 45 = .ok (.aload_n 0, 1) := dk_42 (dk_at dksX6_init_1 21 rfl rfl)
theorem dX6_init_46 : decode cX6_init 46 = .ok (.sipush 301, 3) := dk_17 1 45 (dk_at dksX6_init_2 0 rfl rfl)
theorem dX6_init_49 : decode cX6_init 49 = .ok (.newarray .int, 2) := dk_188_10 (dk_at dksX6_init_2 3 rfl rfl)
theorem dX6_init_51 : decode cX6_init 51 = .ok (.putfield 28, 3) := dk_181 0 28 (dk_at dksX6_init_2 5 rfl rfl)
theorem dX6_init_54 : decode cX6_init 54 = .ok (.aload_n 0, 1) := dk_42 (dk_at dksX6_init_2 8 rfl rfl)
theorem dX6_init_55 : decode cX6_init 55 = .ok (.sipush 1400, 3) := dk_17 5 120 (dk_at dksX6_init_2 9 rfl rfl)
theorem dX6_init_58 : decode cX6_init 58 = .ok (.newarray .int, 2) := dk_188_10 (dk_at dksX6_init_2 12 rfl rfl)
theorem dX6_init_60 : decode cX6_init 60 = .ok (.putfield 31, 3) := dk_181 0 31 (dk_at dksX6_init_2 14 rfl rfl)
theorem dX6_init_63 : decode cX6_init 63 = .ok (.aload_n 0, 1) := dk_42 (dk_at dksX6_init_2 17 rfl rfl)
theorem dX6_init_64 : decode cX6_init 64 = .ok (.bipush 24, 2) := dk_16 24 (dk_at dksX6_init_2 18 rfl rfl)
theorem dX6_init_66 : decode cX6_init 66 = .ok (.newarray .int, 2) := dk_188_10 (dk_at dksX6_init_2 20 rfl rfl)
theorem dX6_init_68 : decode cX6_init 68 = .ok (.putfield 34, 3) := dk_181 0 34 (dk_at dksX6_init_3 0 rfl rfl)
theorem dX6_init_71 : decode cX6_init 71 = .ok (.aload_n 0, 1) := dk_42 (dk_at dksX6_init_3 3 rfl rfl)
theorem dX6_init_72 : decode cX6_init 72 = .ok (.sipush 2000, 3) := dk_17 7 208 (dk_at dksX6_init_3 4 rfl rfl)
theorem dX6_init_75 : decode cX6_init 75 = .ok (.newarray .int, 2) := dk_188_10 (dk_at dksX6_init_3 7 rfl rfl)
theorem dX6_init_77 : decode cX6_init 77 = .ok (.putfield 37, 3) := dk_181 0 37 (dk_at dksX6_init_3 9 rfl rfl)
theorem dX6_init_80 : decode cX6_init 80 = .ok (.aload_n 0, 1) := dk_42 (dk_at dksX6_init_3 12 rfl rfl)
theorem dX6_init_81 : decode cX6_init 81 = .ok (.sipush 800, 3) := dk_17 3 32 (dk_at dksX6_init_3 13 rfl rfl)
theorem dX6_init_84 : decode cX6_init 84 = .ok (.newarray .int, 2) := dk_188_10 (dk_at dksX6_init_3 16 rfl rfl)
theorem dX6_init_86 : decode cX6_init 86 = .ok (.putfield 40, 3) := dk_181 0 40 (dk_at dksX6_init_3 18 rfl rfl)
theorem dX6_init_89 : decode cX6_init 89 = .ok (.aload_n 0, 1) := dk_42 (dk_at dksX6_init_3 21 rfl rfl)
theorem dX6_init_90 : decode cX6_init 90 = .ok (.sipush 301, 3) := dk_17 1 45 (dk_at dksX6_init_4 0 rfl rfl)
theorem dX6_init_93 : decode cX6_init 93 = .ok (.newarray .int, 2) := dk_188_10 (dk_at dksX6_init_4 3 rfl rfl)
theorem dX6_init_95 : decode cX6_init 95 = .ok (.putfield 43, 3) := dk_181 0 43 (dk_at dksX6_init_4 5 rfl rfl)
theorem dX6_init_98 : decode cX6_init 98 = .ok (.aload_n 0, 1) := dk_42 (dk_at dksX6_init_4 8 rfl rfl)
theorem dX6_init_99 : decode cX6_init 99 = .ok (.aload_n 2, 1) := dk_44 (dk_at dksX6_init_4 9 rfl rfl)
theorem dX6_init_100 : decode cX6_init 100 = .ok (.putfield 46, 3) := dk_181 0 46 (dk_at dksX6_init_4 10 rfl rfl)
theorem dX6_init_103 : decode cX6_init 103 = .ok (.return_, 1) := dk_177 (dk_at dksX6_init_4 13 rfl rfl)
abbrev cX6_all : ByteArray := prog_12_method_13_code
def yX6_all : MethodName := ⟨RX6, "all", "([BII)V"⟩
def dkwX6_all_10 : List UInt8 := [177]
abbrev dktX6_all_10 : List UInt8 := dkwX6_all_10 ++ []
def dkwX6_all_9 : List UInt8 := [180, 0, 151, 42, 180, 0, 101, 21, 5, 100, 79, 42, 89, 180, 0, 151, 4, 96, 181, 0, 151, 167, 255, 89]
abbrev dktX6_all_9 : List UInt8 := dkwX6_all_9 ++ dktX6_all_10
def dkwX6_all_8 : List UInt8 := [4, 21, 4, 182, 0, 127, 191, 42, 180, 0, 19, 42, 180, 0, 151, 21, 5, 79, 42, 180, 0, 22, 42]
abbrev dktX6_all_8 : List UInt8 := dkwX6_all_8 ++ dktX6_all_9
def dkwX6_all_7 : List UInt8 := [184, 0, 145, 153, 0, 14, 42, 21, 4, 182, 0, 160, 54, 4, 167, 255, 189, 42, 180, 0, 3, 180, 0, 123]
abbrev dktX6_all_7 : List UInt8 := dkwX6_all_7 ++ dktX6_all_8
def dkwX6_all_6 : List UInt8 := [184, 0, 113, 153, 0, 14, 42, 21, 4, 182, 0, 157, 54, 4, 167, 255, 213, 42, 180, 0, 74, 21, 4, 51]
abbrev dktX6_all_6 : List UInt8 := dkwX6_all_6 ++ dktX6_all_7
def dkwX6_all_5 : List UInt8 := [162, 0, 78, 42, 180, 0, 74, 21, 4, 51, 184, 0, 154, 154, 0, 65, 42, 180, 0, 74, 21, 4, 51]
abbrev dktX6_all_5 : List UInt8 := dkwX6_all_5 ++ dktX6_all_6
def dkwX6_all_4 : List UInt8 := [180, 0, 151, 158, 0, 8, 42, 3, 182, 0, 136, 42, 180, 0, 101, 54, 5, 21, 4, 42, 180, 0, 112]
abbrev dktX6_all_4 : List UInt8 := dkwX6_all_4 ++ dktX6_all_5
def dkwX6_all_3 : List UInt8 := [162, 0, 164, 42, 180, 0, 74, 21, 4, 51, 184, 0, 154, 153, 0, 9, 132, 4, 1, 167, 255, 231, 42]
abbrev dktX6_all_3 : List UInt8 := dkwX6_all_3 ++ dktX6_all_4
def dkwX6_all_2 : List UInt8 := [180, 0, 34, 21, 4, 3, 79, 132, 4, 1, 167, 255, 238, 3, 54, 4, 21, 4, 42, 180, 0, 112]
abbrev dktX6_all_2 : List UInt8 := dkwX6_all_2 ++ dktX6_all_3
def dkwX6_all_1 : List UInt8 := [181, 0, 151, 42, 3, 181, 0, 106, 42, 3, 181, 0, 109, 3, 54, 4, 21, 4, 16, 24, 162, 0, 17, 42]
abbrev dktX6_all_1 : List UInt8 := dkwX6_all_1 ++ dktX6_all_2
def dkwX6_all_0 : List UInt8 := [42, 43, 181, 0, 74, 42, 28, 181, 0, 112, 42, 29, 181, 0, 50, 42, 3, 181, 0, 101, 42, 3]
abbrev dktX6_all_0 : List UInt8 := dkwX6_all_0 ++ dktX6_all_1
theorem dksX6_all_0 : cX6_all.data.toList.drop 0 = dktX6_all_0 := by decide +kernel
theorem dksX6_all_1 : cX6_all.data.toList.drop 22 = dktX6_all_1 := dk_seg dksX6_all_0 22 rfl rfl
theorem dksX6_all_2 : cX6_all.data.toList.drop 46 = dktX6_all_2 := dk_seg dksX6_all_1 24 rfl rfl
theorem dksX6_all_3 : cX6_all.data.toList.drop 68 = dktX6_all_3 := dk_seg dksX6_all_2 22 rfl rfl
theorem dksX6_all_4 : cX6_all.data.toList.drop 91 = dktX6_all_4 := dk_seg dksX6_all_3 23 rfl rfl
theorem dksX6_all_5 : cX6_all.data.toList.drop 114 = dktX6_all_5 := dk_seg dksX6_all_4 23 rfl rfl
theorem dksX6_all_6 : cX6_all.data.toList.drop 137 = dktX6_all_6 := dk_seg dksX6_all_5 23 rfl rfl
theorem dksX6_all_7 : cX6_all.data.toList.drop 161 = dktX6_all_7 := dk_seg dksX6_all_6 24 rfl rfl
theorem dksX6_all_8 : cX6_all.data.toList.drop 185 = dktX6_all_8 := dk_seg dksX6_all_7 24 rfl rfl
theorem dksX6_all_9 : cX6_all.data.toList.drop 208 = dktX6_all_9 := dk_seg dksX6_all_8 23 rfl rfl
theorem dksX6_all_10 : cX6_all.data.toList.drop 232 = dktX6_all_10 := dk_seg dksX6_all_9 24 rfl rfl
theorem dX6_all_0 : decode cX6_all 0 = .ok (.aload_n 0, 1) := dk_42 (dk_at dksX6_all_0 0 rfl rfl)
theorem dX6_all_1 : decode cX6_all 1 = .ok (.aload_n 1, 1) := dk_43 (dk_at dksX6_all_0 1 rfl rfl)
theorem dX6_all_2 : decode cX6_all 2 = .ok (.putfield 74, 3) := dk_181 0 74 (dk_at dksX6_all_0 2 rfl rfl)
theorem dX6_all_5 : decode cX6_all 5 = .ok (.aload_n 0, 1) := dk_42 (dk_at dksX6_all_0 5 rfl rfl)
theorem dX6_all_6 : decode cX6_all 6 = .ok (.iload_n 2, 1) := dk_28 (dk_at dksX6_all_0 6 rfl rfl)
theorem dX6_all_7 : decode cX6_all 7 = .ok (.putfield 112, 3) := dk_181 0 112 (dk_at dksX6_all_0 7 rfl rfl)
theorem dX6_all_10 : decode cX6_all 10 = .ok (.aload_n 0, 1) := dk_42 (dk_at dksX6_all_0 10 rfl rfl)
theorem dX6_all_11 : decode cX6_all 11 = .ok (.iload_n 3, 1) := dk_29 (dk_at dksX6_all_0 11 rfl rfl)
theorem dX6_all_12 : decode cX6_all 12 = .ok (.putfield 50, 3) := dk_181 0 50 (dk_at dksX6_all_0 12 rfl rfl)
theorem dX6_all_15 : decode cX6_all 15 = .ok (.aload_n 0, 1) := dk_42 (dk_at dksX6_all_0 15 rfl rfl)
theorem dX6_all_16 : decode cX6_all 16 = .ok (.iconst 0, 1) := dk_3 (dk_at dksX6_all_0 16 rfl rfl)
theorem dX6_all_17 : decode cX6_all 17 = .ok (.putfield 101, 3) := dk_181 0 101 (dk_at dksX6_all_0 17 rfl rfl)
theorem dX6_all_20 : decode cX6_all 20 = .ok (.aload_n 0, 1) := dk_42 (dk_at dksX6_all_0 20 rfl rfl)
theorem dX6_all_21 : decode cX6_all 21 = .ok (.iconst 0, 1) := dk_3 (dk_at dksX6_all_0 21 rfl rfl)
theorem dX6_all_22 : decode cX6_all 22 = .ok (.putfield 151, 3) := dk_181 0 151 (dk_at dksX6_all_1 0 rfl rfl)
theorem dX6_all_25 : decode cX6_all 25 = .ok (.aload_n 0, 1) := dk_42 (dk_at dksX6_all_1 3 rfl rfl)
theorem dX6_all_26 : decode cX6_all 26 = .ok (.iconst 0, 1) := dk_3 (dk_at dksX6_all_1 4 rfl rfl)
theorem dX6_all_27 : decode cX6_all 27 = .ok (.putfield 106, 3) := dk_181 0 106 (dk_at dksX6_all_1 5 rfl rfl)
theorem dX6_all_30 : decode cX6_all 30 = .ok (.aload_n 0, 1) := dk_42 (dk_at dksX6_all_1 8 rfl rfl)
theorem dX6_all_31 : decode cX6_all 31 = .ok (.iconst 0, 1) := dk_3 (dk_at dksX6_all_1 9 rfl rfl)
theorem dX6_all_32 : decode cX6_all 32 = .ok (.putfield 109, 3) := dk_181 0 109 (dk_at dksX6_all_1 10 rfl rfl)
theorem dX6_all_35 : decode cX6_all 35 = .ok (.iconst 0, 1) := dk_3 (dk_at dksX6_all_1 13 rfl rfl)
theorem dX6_all_36 : decode cX6_all 36 = .ok (.istore 4, 2) := dk_54 4 (dk_at dksX6_all_1 14 rfl rfl)
theorem dX6_all_38 : decode cX6_all 38 = .ok (.iload 4, 2) := dk_21 4 (dk_at dksX6_all_1 16 rfl rfl)
theorem dX6_all_40 : decode cX6_all 40 = .ok (.bipush 24, 2) := dk_16 24 (dk_at dksX6_all_1 18 rfl rfl)
theorem dX6_all_42 : decode cX6_all 42 = .ok (.if_icmp .ge 17, 3) := dk_162 0 17 (dk_at dksX6_all_1 20 rfl rfl)
theorem dX6_all_45 : decode cX6_all 45 = .ok (.aload_n 0, 1) := dk_42 (dk_at dksX6_all_1 23 rfl rfl)
theorem dX6_all_46 : decode cX6_all 46 = .ok (.getfield 34, 3) := dk_180 0 34 (dk_at dksX6_all_2 0 rfl rfl)
theorem dX6_all_49 : decode cX6_all 49 = .ok (.iload 4, 2) := dk_21 4 (dk_at dksX6_all_2 3 rfl rfl)
theorem dX6_all_51 : decode cX6_all 51 = .ok (.iconst 0, 1) := dk_3 (dk_at dksX6_all_2 5 rfl rfl)
theorem dX6_all_52 : decode cX6_all 52 = .ok (.iastore, 1) := dk_79 (dk_at dksX6_all_2 6 rfl rfl)
theorem dX6_all_53 : decode cX6_all 53 = .ok (.iinc 4 1, 3) := dk_132 4 1 (dk_at dksX6_all_2 7 rfl rfl)
theorem dX6_all_56 : decode cX6_all 56 = .ok (.goto (-18), 3) := dk_167 255 238 (dk_at dksX6_all_2 10 rfl rfl)
theorem dX6_all_59 : decode cX6_all 59 = .ok (.iconst 0, 1) := dk_3 (dk_at dksX6_all_2 13 rfl rfl)
theorem dX6_all_60 : decode cX6_all 60 = .ok (.istore 4, 2) := dk_54 4 (dk_at dksX6_all_2 14 rfl rfl)
theorem dX6_all_62 : decode cX6_all 62 = .ok (.iload 4, 2) := dk_21 4 (dk_at dksX6_all_2 16 rfl rfl)
theorem dX6_all_64 : decode cX6_all 64 = .ok (.aload_n 0, 1) := dk_42 (dk_at dksX6_all_2 18 rfl rfl)
theorem dX6_all_65 : decode cX6_all 65 = .ok (.getfield 112, 3) := dk_180 0 112 (dk_at dksX6_all_2 19 rfl rfl)
theorem dX6_all_68 : decode cX6_all 68 = .ok (.if_icmp .ge 164, 3) := dk_162 0 164 (dk_at dksX6_all_3 0 rfl rfl)
theorem dX6_all_71 : decode cX6_all 71 = .ok (.aload_n 0, 1) := dk_42 (dk_at dksX6_all_3 3 rfl rfl)
theorem dX6_all_72 : decode cX6_all 72 = .ok (.getfield 74, 3) := dk_180 0 74 (dk_at dksX6_all_3 4 rfl rfl)
theorem dX6_all_75 : decode cX6_all 75 = .ok (.iload 4, 2) := dk_21 4 (dk_at dksX6_all_3 7 rfl rfl)
theorem dX6_all_77 : decode cX6_all 77 = .ok (.baload, 1) := dk_51 (dk_at dksX6_all_3 9 rfl rfl)
theorem dX6_all_78 : decode cX6_all 78 = .ok (.invokestatic 154, 3) := dk_184 0 154 (dk_at dksX6_all_3 10 rfl rfl)
theorem dX6_all_81 : decode cX6_all 81 = .ok (.ifCond .eq 9, 3) := dk_153 0 9 (dk_at dksX6_all_3 13 rfl rfl)
theorem dX6_all_84 : decode cX6_all 84 = .ok (.iinc 4 1, 3) := dk_132 4 1 (dk_at dksX6_all_3 16 rfl rfl)
theorem dX6_all_87 : decode cX6_all 87 = .ok (.goto (-25), 3) := dk_167 255 231 (dk_at dksX6_all_3 19 rfl rfl)
theorem dX6_all_90 : decode cX6_all 90 = .ok (.aload_n 0, 1) := dk_42 (dk_at dksX6_all_3 22 rfl rfl)
theorem dX6_all_91 : decode cX6_all 91 = .ok (.getfield 151, 3) := dk_180 0 151 (dk_at dksX6_all_4 0 rfl rfl)
theorem dX6_all_94 : decode cX6_all 94 = .ok (.ifCond .le 8, 3) := dk_158 0 8 (dk_at dksX6_all_4 3 rfl rfl)
theorem dX6_all_97 : decode cX6_all 97 = .ok (.aload_n 0, 1) := dk_42 (dk_at dksX6_all_4 6 rfl rfl)
theorem dX6_all_98 : decode cX6_all 98 = .ok (.iconst 0, 1) := dk_3 (dk_at dksX6_all_4 7 rfl rfl)
theorem dX6_all_99 : decode cX6_all 99 = .ok (.invokevirtual 136, 3) := dk_182 0 136 (dk_at dksX6_all_4 8 rfl rfl)
theorem dX6_all_102 : decode cX6_all 102 = .ok (.aload_n 0, 1) := dk_42 (dk_at dksX6_all_4 11 rfl rfl)
theorem dX6_all_103 : decode cX6_all 103 = .ok (.getfield 101, 3) := dk_180 0 101 (dk_at dksX6_all_4 12 rfl rfl)
theorem dX6_all_106 : decode cX6_all 106 = .ok (.istore 5, 2) := dk_54 5 (dk_at dksX6_all_4 15 rfl rfl)
theorem dX6_all_108 : decode cX6_all 108 = .ok (.iload 4, 2) := dk_21 4 (dk_at dksX6_all_4 17 rfl rfl)
theorem dX6_all_110 : decode cX6_all 110 = .ok (.aload_n 0, 1) := dk_42 (dk_at dksX6_all_4 19 rfl rfl)
theorem dX6_all_111 : decode cX6_all 111 = .ok (.getfield 112, 3) := dk_180 0 112 (dk_at dksX6_all_4 20 rfl rfl)
theorem dX6_all_114 : decode cX6_all 114 = .ok (.if_icmp .ge 78, 3) := dk_162 0 78 (dk_at dksX6_all_5 0 rfl rfl)
theorem dX6_all_117 : decode cX6_all 117 = .ok (.aload_n 0, 1) := dk_42 (dk_at dksX6_all_5 3 rfl rfl)
theorem dX6_all_118 : decode cX6_all 118 = .ok (.getfield 74, 3) := dk_180 0 74 (dk_at dksX6_all_5 4 rfl rfl)
theorem dX6_all_121 : decode cX6_all 121 = .ok (.iload 4, 2) := dk_21 4 (dk_at dksX6_all_5 7 rfl rfl)
theorem dX6_all_123 : decode cX6_all 123 = .ok (.baload, 1) := dk_51 (dk_at dksX6_all_5 9 rfl rfl)
theorem dX6_all_124 : decode cX6_all 124 = .ok (.invokestatic 154, 3) := dk_184 0 154 (dk_at dksX6_all_5 10 rfl rfl)
theorem dX6_all_127 : decode cX6_all 127 = .ok (.ifCond .ne 65, 3) := dk_154 0 65 (dk_at dksX6_all_5 13 rfl rfl)
theorem dX6_all_130 : decode cX6_all 130 = .ok (.aload_n 0, 1) := dk_42 (dk_at dksX6_all_5 16 rfl rfl)
theorem dX6_all_131 : decode cX6_all 131 = .ok (.getfield 74, 3) := dk_180 0 74 (dk_at dksX6_all_5 17 rfl rfl)
theorem dX6_all_134 : decode cX6_all 134 = .ok (.iload 4, 2) := dk_21 4 (dk_at dksX6_all_5 20 rfl rfl)
theorem dX6_all_136 : decode cX6_all 136 = .ok (.baload, 1) := dk_51 (dk_at dksX6_all_5 22 rfl rfl)
theorem dX6_all_137 : decode cX6_all 137 = .ok (.invokestatic 113, 3) := dk_184 0 113 (dk_at dksX6_all_6 0 rfl rfl)
theorem dX6_all_140 : decode cX6_all 140 = .ok (.ifCond .eq 14, 3) := dk_153 0 14 (dk_at dksX6_all_6 3 rfl rfl)
theorem dX6_all_143 : decode cX6_all 143 = .ok (.aload_n 0, 1) := dk_42 (dk_at dksX6_all_6 6 rfl rfl)
theorem dX6_all_144 : decode cX6_all 144 = .ok (.iload 4, 2) := dk_21 4 (dk_at dksX6_all_6 7 rfl rfl)
theorem dX6_all_146 : decode cX6_all 146 = .ok (.invokevirtual 157, 3) := dk_182 0 157 (dk_at dksX6_all_6 9 rfl rfl)
theorem dX6_all_149 : decode cX6_all 149 = .ok (.istore 4, 2) := dk_54 4 (dk_at dksX6_all_6 12 rfl rfl)
theorem dX6_all_151 : decode cX6_all 151 = .ok (.goto (-43), 3) := dk_167 255 213 (dk_at dksX6_all_6 14 rfl rfl)
theorem dX6_all_154 : decode cX6_all 154 = .ok (.aload_n 0, 1) := dk_42 (dk_at dksX6_all_6 17 rfl rfl)
theorem dX6_all_155 : decode cX6_all 155 = .ok (.getfield 74, 3) := dk_180 0 74 (dk_at dksX6_all_6 18 rfl rfl)
theorem dX6_all_158 : decode cX6_all 158 = .ok (.iload 4, 2) := dk_21 4 (dk_at dksX6_all_6 21 rfl rfl)
theorem dX6_all_160 : decode cX6_all 160 = .ok (.baload, 1) := dk_51 (dk_at dksX6_all_6 23 rfl rfl)
theorem dX6_all_161 : decode cX6_all 161 = .ok (.invokestatic 145, 3) := dk_184 0 145 (dk_at dksX6_all_7 0 rfl rfl)
theorem dX6_all_164 : decode cX6_all 164 = .ok (.ifCond .eq 14, 3) := dk_153 0 14 (dk_at dksX6_all_7 3 rfl rfl)
theorem dX6_all_167 : decode cX6_all 167 = .ok (.aload_n 0, 1) := dk_42 (dk_at dksX6_all_7 6 rfl rfl)
theorem dX6_all_168 : decode cX6_all 168 = .ok (.iload 4, 2) := dk_21 4 (dk_at dksX6_all_7 7 rfl rfl)
theorem dX6_all_170 : decode cX6_all 170 = .ok (.invokevirtual 160, 3) := dk_182 0 160 (dk_at dksX6_all_7 9 rfl rfl)
theorem dX6_all_173 : decode cX6_all 173 = .ok (.istore 4, 2) := dk_54 4 (dk_at dksX6_all_7 12 rfl rfl)
theorem dX6_all_175 : decode cX6_all 175 = .ok (.goto (-67), 3) := dk_167 255 189 (dk_at dksX6_all_7 14 rfl rfl)
theorem dX6_all_178 : decode cX6_all 178 = .ok (.aload_n 0, 1) := dk_42 (dk_at dksX6_all_7 17 rfl rfl)
theorem dX6_all_179 : decode cX6_all 179 = .ok (.getfield 3, 3) := dk_180 0 3 (dk_at dksX6_all_7 18 rfl rfl)
theorem dX6_all_182 : decode cX6_all 182 = .ok (.getfield 123, 3) := dk_180 0 123 (dk_at dksX6_all_7 21 rfl rfl)
theorem dX6_all_185 : decode cX6_all 185 = .ok (.iconst 1, 1) := dk_4 (dk_at dksX6_all_8 0 rfl rfl)
theorem dX6_all_186 : decode cX6_all 186 = .ok (.iload 4, 2) := dk_21 4 (dk_at dksX6_all_8 1 rfl rfl)
theorem dX6_all_188 : decode cX6_all 188 = .ok (.invokevirtual 127, 3) := dk_182 0 127 (dk_at dksX6_all_8 3 rfl rfl)
theorem dX6_all_191 : decode cX6_all 191 = .ok (.athrow, 1) := dk_191 (dk_at dksX6_all_8 6 rfl rfl)
theorem dX6_all_192 : decode cX6_all 192 = .ok (.aload_n 0, 1) := dk_42 (dk_at dksX6_all_8 7 rfl rfl)
theorem dX6_all_193 : decode cX6_all 193 = .ok (.getfield 19, 3) := dk_180 0 19 (dk_at dksX6_all_8 8 rfl rfl)
theorem dX6_all_196 : decode cX6_all 196 = .ok (.aload_n 0, 1) := dk_42 (dk_at dksX6_all_8 11 rfl rfl)
theorem dX6_all_197 : decode cX6_all 197 = .ok (.getfield 151, 3) := dk_180 0 151 (dk_at dksX6_all_8 12 rfl rfl)
theorem dX6_all_200 : decode cX6_all 200 = .ok (.iload 5, 2) := dk_21 5 (dk_at dksX6_all_8 15 rfl rfl)
theorem dX6_all_202 : decode cX6_all 202 = .ok (.iastore, 1) := dk_79 (dk_at dksX6_all_8 17 rfl rfl)
theorem dX6_all_203 : decode cX6_all 203 = .ok (.aload_n 0, 1) := dk_42 (dk_at dksX6_all_8 18 rfl rfl)
theorem dX6_all_204 : decode cX6_all 204 = .ok (.getfield 22, 3) := dk_180 0 22 (dk_at dksX6_all_8 19 rfl rfl)
theorem dX6_all_207 : decode cX6_all 207 = .ok (.aload_n 0, 1) := dk_42 (dk_at dksX6_all_8 22 rfl rfl)
theorem dX6_all_208 : decode cX6_all 208 = .ok (.getfield 151, 3) := dk_180 0 151 (dk_at dksX6_all_9 0 rfl rfl)
theorem dX6_all_211 : decode cX6_all 211 = .ok (.aload_n 0, 1) := dk_42 (dk_at dksX6_all_9 3 rfl rfl)
theorem dX6_all_212 : decode cX6_all 212 = .ok (.getfield 101, 3) := dk_180 0 101 (dk_at dksX6_all_9 4 rfl rfl)
theorem dX6_all_215 : decode cX6_all 215 = .ok (.iload 5, 2) := dk_21 5 (dk_at dksX6_all_9 7 rfl rfl)
theorem dX6_all_217 : decode cX6_all 217 = .ok (.isub, 1) := dk_100 (dk_at dksX6_all_9 9 rfl rfl)
theorem dX6_all_218 : decode cX6_all 218 = .ok (.iastore, 1) := dk_79 (dk_at dksX6_all_9 10 rfl rfl)
theorem dX6_all_219 : decode cX6_all 219 = .ok (.aload_n 0, 1) := dk_42 (dk_at dksX6_all_9 11 rfl rfl)
theorem dX6_all_220 : decode cX6_all 220 = .ok (.dup, 1) := dk_89 (dk_at dksX6_all_9 12 rfl rfl)
theorem dX6_all_221 : decode cX6_all 221 = .ok (.getfield 151, 3) := dk_180 0 151 (dk_at dksX6_all_9 13 rfl rfl)
theorem dX6_all_224 : decode cX6_all 224 = .ok (.iconst 1, 1) := dk_4 (dk_at dksX6_all_9 16 rfl rfl)
theorem dX6_all_225 : decode cX6_all 225 = .ok (.iadd, 1) := dk_96 (dk_at dksX6_all_9 17 rfl rfl)
theorem dX6_all_226 : decode cX6_all 226 = .ok (.putfield 151, 3) := dk_181 0 151 (dk_at dksX6_all_9 18 rfl rfl)
theorem dX6_all_229 : decode cX6_all 229 = .ok (.goto (-167), 3) := dk_167 255 89 (dk_at dksX6_all_9 21 rfl rfl)
theorem dX6_all_232 : decode cX6_all 232 = .ok (.return_, 1) := dk_177 (dk_at dksX6_all_10 0 rfl rfl)
abbrev cX6_sets : ByteArray := prog_12_method_7_code
def yX6_sets : MethodName := ⟨RX6, "sets", "(I)V"⟩
def dkwX6_sets_0 : List UInt8 := [42, 27, 2, 182, 0, 97, 177]
abbrev dktX6_sets_0 : List UInt8 := dkwX6_sets_0 ++ []
theorem dksX6_sets_0 : cX6_sets.data.toList.drop 0 = dktX6_sets_0 := by decide +kernel
theorem dX6_sets_0 : decode cX6_sets 0 = .ok (.aload_n 0, 1) := dk_42 (dk_at dksX6_sets_0 0 rfl rfl)
theorem dX6_sets_1 : decode cX6_sets 1 = .ok (.iload_n 1, 1) := dk_27 (dk_at dksX6_sets_0 1 rfl rfl)
theorem dX6_sets_2 : decode cX6_sets 2 = .ok (.iconst (-1), 1) := dk_2 (dk_at dksX6_sets_0 2 rfl rfl)
theorem dX6_sets_3 : decode cX6_sets 3 = .ok (.invokevirtual 97, 3) := dk_182 0 97 (dk_at dksX6_sets_0 3 rfl rfl)
theorem dX6_sets_6 : decode cX6_sets 6 = .ok (.return_, 1) := dk_177 (dk_at dksX6_sets_0 6 rfl rfl)
abbrev cX6_sets_2 : ByteArray := prog_12_method_8_code
def yX6_sets_2 : MethodName := ⟨RX6, "sets", "(II)V"⟩
def dkwX6_sets_2_1 : List UInt8 := [180, 0, 101, 4, 96, 181, 0, 101, 177]
abbrev dktX6_sets_2_1 : List UInt8 := dkwX6_sets_2_1 ++ []
def dkwX6_sets_2_0 : List UInt8 := [42, 180, 0, 15, 42, 180, 0, 101, 27, 79, 42, 180, 0, 31, 42, 180, 0, 101, 28, 79, 42, 89]
abbrev dktX6_sets_2_0 : List UInt8 := dkwX6_sets_2_0 ++ dktX6_sets_2_1
theorem dksX6_sets_2_0 : cX6_sets_2.data.toList.drop 0 = dktX6_sets_2_0 := by decide +kernel
theorem dksX6_sets_2_1 : cX6_sets_2.data.toList.drop 22 = dktX6_sets_2_1 := dk_seg dksX6_sets_2_0 22 rfl rfl
theorem dX6_sets_2_0 : decode cX6_sets_2 0 = .ok (.aload_n 0, 1) := dk_42 (dk_at dksX6_sets_2_0 0 rfl rfl)
theorem dX6_sets_2_1 : decode cX6_sets_2 1 = .ok (.getfield 15, 3) := dk_180 0 15 (dk_at dksX6_sets_2_0 1 rfl rfl)
theorem dX6_sets_2_4 : decode cX6_sets_2 4 = .ok (.aload_n 0, 1) := dk_42 (dk_at dksX6_sets_2_0 4 rfl rfl)
theorem dX6_sets_2_5 : decode cX6_sets_2 5 = .ok (.getfield 101, 3) := dk_180 0 101 (dk_at dksX6_sets_2_0 5 rfl rfl)
theorem dX6_sets_2_8 : decode cX6_sets_2 8 = .ok (.iload_n 1, 1) := dk_27 (dk_at dksX6_sets_2_0 8 rfl rfl)
theorem dX6_sets_2_9 : decode cX6_sets_2 9 = .ok (.iastore, 1) := dk_79 (dk_at dksX6_sets_2_0 9 rfl rfl)
theorem dX6_sets_2_10 : decode cX6_sets_2 10 = .ok (.aload_n 0, 1) := dk_42 (dk_at dksX6_sets_2_0 10 rfl rfl)
theorem dX6_sets_2_11 : decode cX6_sets_2 11 = .ok (.getfield 31, 3) := dk_180 0 31 (dk_at dksX6_sets_2_0 11 rfl rfl)
theorem dX6_sets_2_14 : decode cX6_sets_2 14 = .ok (.aload_n 0, 1) := dk_42 (dk_at dksX6_sets_2_0 14 rfl rfl)
theorem dX6_sets_2_15 : decode cX6_sets_2 15 = .ok (.getfield 101, 3) := dk_180 0 101 (dk_at dksX6_sets_2_0 15 rfl rfl)
theorem dX6_sets_2_18 : decode cX6_sets_2 18 = .ok (.iload_n 2, 1) := dk_28 (dk_at dksX6_sets_2_0 18 rfl rfl)
theorem dX6_sets_2_19 : decode cX6_sets_2 19 = .ok (.iastore, 1) := dk_79 (dk_at dksX6_sets_2_0 19 rfl rfl)
theorem dX6_sets_2_20 : decode cX6_sets_2 20 = .ok (.aload_n 0, 1) := dk_42 (dk_at dksX6_sets_2_0 20 rfl rfl)
theorem dX6_sets_2_21 : decode cX6_sets_2 21 = .ok (.dup, 1) := dk_89 (dk_at dksX6_sets_2_0 21 rfl rfl)
theorem dX6_sets_2_22 : decode cX6_sets_2 22 = .ok (.getfield 101, 3) := dk_180 0 101 (dk_at dksX6_sets_2_1 0 rfl rfl)
theorem dX6_sets_2_25 : decode cX6_sets_2 25 = .ok (.iconst 1, 1) := dk_4 (dk_at dksX6_sets_2_1 3 rfl rfl)
theorem dX6_sets_2_26 : decode cX6_sets_2 26 = .ok (.iadd, 1) := dk_96 (dk_at dksX6_sets_2_1 4 rfl rfl)
theorem dX6_sets_2_27 : decode cX6_sets_2 27 = .ok (.putfield 101, 3) := dk_181 0 101 (dk_at dksX6_sets_2_1 5 rfl rfl)
theorem dX6_sets_2_30 : decode cX6_sets_2 30 = .ok (.return_, 1) := dk_177 (dk_at dksX6_sets_2_1 8 rfl rfl)
abbrev cX6_word : ByteArray := prog_12_method_11_code
def yX6_word : MethodName := ⟨RX6, "word", "(I)I"⟩
def dkwX6_word_4 : List UInt8 := [42, 180, 0, 46, 180, 0, 54, 21, 4, 50, 180, 0, 60, 190, 96, 62, 167, 255, 154, 28, 172]
abbrev dktX6_word_4 : List UInt8 := dkwX6_word_4 ++ []
def dkwX6_word_3 : List UInt8 := [29, 182, 0, 127, 191, 42, 42, 180, 0, 46, 180, 0, 133, 182, 0, 136, 42, 21, 4, 4, 182, 0, 139, 29]
abbrev dktX6_word_3 : List UInt8 := dkwX6_word_3 ++ dktX6_word_4
def dkwX6_word_2 : List UInt8 := [184, 0, 77, 153, 0, 37, 42, 180, 0, 46, 180, 0, 133, 156, 0, 16, 42, 180, 0, 3, 180, 0, 123, 8]
abbrev dktX6_word_2 : List UInt8 := dkwX6_word_2 ++ dktX6_word_3
def dkwX6_word_1 : List UInt8 := [156, 0, 16, 42, 180, 0, 3, 180, 0, 123, 6, 29, 182, 0, 127, 191, 42, 180, 0, 74, 29, 51]
abbrev dktX6_word_1 : List UInt8 := dkwX6_word_1 ++ dktX6_word_2
def dkwX6_word_0 : List UInt8 := [42, 27, 182, 0, 116, 61, 27, 62, 29, 28, 162, 0, 103, 42, 29, 27, 28, 182, 0, 119, 54, 4, 21, 4]
abbrev dktX6_word_0 : List UInt8 := dkwX6_word_0 ++ dktX6_word_1
theorem dksX6_word_0 : cX6_word.data.toList.drop 0 = dktX6_word_0 := by decide +kernel
theorem dksX6_word_1 : cX6_word.data.toList.drop 24 = dktX6_word_1 := dk_seg dksX6_word_0 24 rfl rfl
theorem dksX6_word_2 : cX6_word.data.toList.drop 46 = dktX6_word_2 := dk_seg dksX6_word_1 22 rfl rfl
theorem dksX6_word_3 : cX6_word.data.toList.drop 70 = dktX6_word_3 := dk_seg dksX6_word_2 24 rfl rfl
theorem dksX6_word_4 : cX6_word.data.toList.drop 94 = dktX6_word_4 := dk_seg dksX6_word_3 24 rfl rfl
theorem dX6_word_0 : decode cX6_word 0 = .ok (.aload_n 0, 1) := dk_42 (dk_at dksX6_word_0 0 rfl rfl)
theorem dX6_word_1 : decode cX6_word 1 = .ok (.iload_n 1, 1) := dk_27 (dk_at dksX6_word_0 1 rfl rfl)
theorem dX6_word_2 : decode cX6_word 2 = .ok (.invokevirtual 116, 3) := dk_182 0 116 (dk_at dksX6_word_0 2 rfl rfl)
theorem dX6_word_5 : decode cX6_word 5 = .ok (.istore_n 2, 1) := dk_61 (dk_at dksX6_word_0 5 rfl rfl)
theorem dX6_word_6 : decode cX6_word 6 = .ok (.iload_n 1, 1) := dk_27 (dk_at dksX6_word_0 6 rfl rfl)
theorem dX6_word_7 : decode cX6_word 7 = .ok (.istore_n 3, 1) := dk_62 (dk_at dksX6_word_0 7 rfl rfl)
theorem dX6_word_8 : decode cX6_word 8 = .ok (.iload_n 3, 1) := dk_29 (dk_at dksX6_word_0 8 rfl rfl)
theorem dX6_word_9 : decode cX6_word 9 = .ok (.iload_n 2, 1) := dk_28 (dk_at dksX6_word_0 9 rfl rfl)
theorem dX6_word_10 : decode cX6_word 10 = .ok (.if_icmp .ge 103, 3) := dk_162 0 103 (dk_at dksX6_word_0 10 rfl rfl)
theorem dX6_word_13 : decode cX6_word 13 = .ok (.aload_n 0, 1) := dk_42 (dk_at dksX6_word_0 13 rfl rfl)
theorem dX6_word_14 : decode cX6_word 14 = .ok (.iload_n 3, 1) := dk_29 (dk_at dksX6_word_0 14 rfl rfl)
theorem dX6_word_15 : decode cX6_word 15 = .ok (.iload_n 1, 1) := dk_27 (dk_at dksX6_word_0 15 rfl rfl)
theorem dX6_word_16 : decode cX6_word 16 = .ok (.iload_n 2, 1) := dk_28 (dk_at dksX6_word_0 16 rfl rfl)
theorem dX6_word_17 : decode cX6_word 17 = .ok (.invokevirtual 119, 3) := dk_182 0 119 (dk_at dksX6_word_0 17 rfl rfl)
theorem dX6_word_20 : decode cX6_word 20 = .ok (.istore 4, 2) := dk_54 4 (dk_at dksX6_word_0 20 rfl rfl)
theorem dX6_word_22 : decode cX6_word 22 = .ok (.iload 4, 2) := dk_21 4 (dk_at dksX6_word_0 22 rfl rfl)
theorem dX6_word_24 : decode cX6_word 24 = .ok (.ifCond .ge 16, 3) := dk_156 0 16 (dk_at dksX6_word_1 0 rfl rfl)
theorem dX6_word_27 : decode cX6_word 27 = .ok (.aload_n 0, 1) := dk_42 (dk_at dksX6_word_1 3 rfl rfl)
theorem dX6_word_28 : decode cX6_word 28 = .ok (.getfield 3, 3) := dk_180 0 3 (dk_at dksX6_word_1 4 rfl rfl)
theorem dX6_word_31 : decode cX6_word 31 = .ok (.getfield 123, 3) := dk_180 0 123 (dk_at dksX6_word_1 7 rfl rfl)
theorem dX6_word_34 : decode cX6_word 34 = .ok (.iconst 3, 1) := dk_6 (dk_at dksX6_word_1 10 rfl rfl)
theorem dX6_word_35 : decode cX6_word 35 = .ok (.iload_n 3, 1) := dk_29 (dk_at dksX6_word_1 11 rfl rfl)
theorem dX6_word_36 : decode cX6_word 36 = .ok (.invokevirtual 127, 3) := dk_182 0 127 (dk_at dksX6_word_1 12 rfl rfl)
theorem dX6_word_39 : decode cX6_word 39 = .ok (.athrow, 1) := dk_191 (dk_at dksX6_word_1 15 rfl rfl)
theorem dX6_word_40 : decode cX6_word 40 = .ok (.aload_n 0, 1) := dk_42 (dk_at dksX6_word_1 16 rfl rfl)
theorem dX6_word_41 : decode cX6_word 41 = .ok (.getfield 74, 3) := dk_180 0 74 (dk_at dksX6_word_1 17 rfl rfl)
theorem dX6_word_44 : decode cX6_word 44 = .ok (.iload_n 3, 1) := dk_29 (dk_at dksX6_word_1 20 rfl rfl)
theorem dX6_word_45 : decode cX6_word 45 = .ok (.baload, 1) := dk_51 (dk_at dksX6_word_1 21 rfl rfl)
theorem dX6_word_46 : decode cX6_word 46 = .ok (.invokestatic 77, 3) := dk_184 0 77 (dk_at dksX6_word_2 0 rfl rfl)
theorem dX6_word_49 : decode cX6_word 49 = .ok (.ifCond .eq 37, 3) := dk_153 0 37 (dk_at dksX6_word_2 3 rfl rfl)
theorem dX6_word_52 : decode cX6_word 52 = .ok (.aload_n 0, 1) := dk_42 (dk_at dksX6_word_2 6 rfl rfl)
theorem dX6_word_53 : decode cX6_word 53 = .ok (.getfield 46, 3) := dk_180 0 46 (dk_at dksX6_word_2 7 rfl rfl)
theorem dX6_word_56 : decode cX6_word 56 = .ok (.getfield 133, 3) := dk_180 0 133 (dk_at dksX6_word_2 10 rfl rfl)
theorem dX6_word_59 : decode cX6_word 59 = .ok (.ifCond .ge 16, 3) := dk_156 0 16 (dk_at dksX6_word_2 13 rfl rfl)
theorem dX6_word_62 : decode cX6_word 62 = .ok (.aload_n 0, 1) := dk_42 (dk_at dksX6_word_2 16 rfl rfl)
theorem dX6_word_63 : decode cX6_word 63 = .ok (.getfield 3, 3) := dk_180 0 3 (dk_at dksX6_word_2 17 rfl rfl)
theorem dX6_word_66 : decode cX6_word 66 = .ok (.getfield 123, 3) := dk_180 0 123 (dk_at dksX6_word_2 20 rfl rfl)
theorem dX6_word_69 : decode cX6_word 69 = .ok (.iconst 5, 1) := dk_8 (dk_at dksX6_word_2 23 rfl rfl)
theorem dX6_word_70 : decode cX6_word 70 = .ok (.iload_n 3, 1) := dk_29 (dk_at dksX6_word_3 0 rfl rfl)
theorem dX6_word_71 : decode cX6_word 71 = .ok (.invokevirtual 127, 3) := dk_182 0 127 (dk_at dksX6_word_3 1 rfl rfl)
theorem dX6_word_74 : decode cX6_word 74 = .ok (.athrow, 1) := dk_191 (dk_at dksX6_word_3 4 rfl rfl)
theorem dX6_word_75 : decode cX6_word 75 = .ok (.aload_n 0, 1) := dk_42 (dk_at dksX6_word_3 5 rfl rfl)
theorem dX6_word_76 : decode cX6_word 76 = .ok (.aload_n 0, 1) := dk_42 (dk_at dksX6_word_3 6 rfl rfl)
theorem dX6_word_77 : decode cX6_word 77 = .ok (.getfield 46, 3) := dk_180 0 46 (dk_at dksX6_word_3 7 rfl rfl)
theorem dX6_word_80 : decode cX6_word 80 = .ok (.getfield 133, 3) := dk_180 0 133 (dk_at dksX6_word_3 10 rfl rfl)
theorem dX6_word_83 : decode cX6_word 83 = .ok (.invokevirtual 136, 3) := dk_182 0 136 (dk_at dksX6_word_3 13 rfl rfl)
theorem dX6_word_86 : decode cX6_word 86 = .ok (.aload_n 0, 1) := dk_42 (dk_at dksX6_word_3 16 rfl rfl)
theorem dX6_word_87 : decode cX6_word 87 = .ok (.iload 4, 2) := dk_21 4 (dk_at dksX6_word_3 17 rfl rfl)
theorem dX6_word_89 : decode cX6_word 89 = .ok (.iconst 1, 1) := dk_4 (dk_at dksX6_word_3 19 rfl rfl)
theorem dX6_word_90 : decode cX6_word 90 = .ok (.invokevirtual 139, 3) := dk_182 0 139 (dk_at dksX6_word_3 20 rfl rfl)
theorem dX6_word_93 : decode cX6_word 93 = .ok (.iload_n 3, 1) := dk_29 (dk_at dksX6_word_3 23 rfl rfl)
theorem dX6_word_94 : decode cX6_word 94 = .ok (.aload_n 0, 1) := dk_42 (dk_at dksX6_word_4 0 rfl rfl)
theorem dX6_word_95 : decode cX6_word 95 = .ok (.getfield 46, 3) := dk_180 0 46 (dk_at dksX6_word_4 1 rfl rfl)
theorem dX6_word_98 : decode cX6_word 98 = .ok (.getfield 54, 3) := dk_180 0 54 (dk_at dksX6_word_4 4 rfl rfl)
theorem dX6_word_101 : decode cX6_word 101 = .ok (.iload 4, 2) := dk_21 4 (dk_at dksX6_word_4 7 rfl rfl)
theorem dX6_word_103 : decode cX6_word 103 = .ok (.aaload, 1) := dk_50 (dk_at dksX6_word_4 9 rfl rfl)
theorem dX6_word_104 : decode cX6_word 104 = .ok (.getfield 60, 3) := dk_180 0 60 (dk_at dksX6_word_4 10 rfl rfl)
theorem dX6_word_107 : decode cX6_word 107 = .ok (.arraylength, 1) := dk_190 (dk_at dksX6_word_4 13 rfl rfl)
theorem dX6_word_108 : decode cX6_word 108 = .ok (.iadd, 1) := dk_96 (dk_at dksX6_word_4 14 rfl rfl)
theorem dX6_word_109 : decode cX6_word 109 = .ok (.istore_n 3, 1) := dk_62 (dk_at dksX6_word_4 15 rfl rfl)
theorem dX6_word_110 : decode cX6_word 110 = .ok (.goto (-102), 3) := dk_167 255 154 (dk_at dksX6_word_4 16 rfl rfl)
theorem dX6_word_113 : decode cX6_word 113 = .ok (.iload_n 2, 1) := dk_28 (dk_at dksX6_word_4 19 rfl rfl)
theorem dX6_word_114 : decode cX6_word 114 = .ok (.ireturn, 1) := dk_172 (dk_at dksX6_word_4 20 rfl rfl)
abbrev cX6_wordEnd : ByteArray := prog_12_method_10_code
def yX6_wordEnd : MethodName := ⟨RX6, "wordEnd", "(I)I"⟩
def dkwX6_wordEnd_1 : List UInt8 := [132, 2, 1, 167, 255, 233, 28, 172]
abbrev dktX6_wordEnd_1 : List UInt8 := dkwX6_wordEnd_1 ++ []
def dkwX6_wordEnd_0 : List UInt8 := [27, 61, 28, 42, 180, 0, 112, 162, 0, 21, 42, 180, 0, 74, 28, 51, 184, 0, 113, 153, 0, 9]
abbrev dktX6_wordEnd_0 : List UInt8 := dkwX6_wordEnd_0 ++ dktX6_wordEnd_1
theorem dksX6_wordEnd_0 : cX6_wordEnd.data.toList.drop 0 = dktX6_wordEnd_0 := by decide +kernel
theorem dksX6_wordEnd_1 : cX6_wordEnd.data.toList.drop 22 = dktX6_wordEnd_1 := dk_seg dksX6_wordEnd_0 22 rfl rfl
theorem dX6_wordEnd_0 : decode cX6_wordEnd 0 = .ok (.iload_n 1, 1) := dk_27 (dk_at dksX6_wordEnd_0 0 rfl rfl)
theorem dX6_wordEnd_1 : decode cX6_wordEnd 1 = .ok (.istore_n 2, 1) := dk_61 (dk_at dksX6_wordEnd_0 1 rfl rfl)
theorem dX6_wordEnd_2 : decode cX6_wordEnd 2 = .ok (.iload_n 2, 1) := dk_28 (dk_at dksX6_wordEnd_0 2 rfl rfl)
theorem dX6_wordEnd_3 : decode cX6_wordEnd 3 = .ok (.aload_n 0, 1) := dk_42 (dk_at dksX6_wordEnd_0 3 rfl rfl)
theorem dX6_wordEnd_4 : decode cX6_wordEnd 4 = .ok (.getfield 112, 3) := dk_180 0 112 (dk_at dksX6_wordEnd_0 4 rfl rfl)
theorem dX6_wordEnd_7 : decode cX6_wordEnd 7 = .ok (.if_icmp .ge 21, 3) := dk_162 0 21 (dk_at dksX6_wordEnd_0 7 rfl rfl)
theorem dX6_wordEnd_10 : decode cX6_wordEnd 10 = .ok (.aload_n 0, 1) := dk_42 (dk_at dksX6_wordEnd_0 10 rfl rfl)
theorem dX6_wordEnd_11 : decode cX6_wordEnd 11 = .ok (.getfield 74, 3) := dk_180 0 74 (dk_at dksX6_wordEnd_0 11 rfl rfl)
theorem dX6_wordEnd_14 : decode cX6_wordEnd 14 = .ok (.iload_n 2, 1) := dk_28 (dk_at dksX6_wordEnd_0 14 rfl rfl)
theorem dX6_wordEnd_15 : decode cX6_wordEnd 15 = .ok (.baload, 1) := dk_51 (dk_at dksX6_wordEnd_0 15 rfl rfl)
theorem dX6_wordEnd_16 : decode cX6_wordEnd 16 = .ok (.invokestatic 113, 3) := dk_184 0 113 (dk_at dksX6_wordEnd_0 16 rfl rfl)
theorem dX6_wordEnd_19 : decode cX6_wordEnd 19 = .ok (.ifCond .eq 9, 3) := dk_153 0 9 (dk_at dksX6_wordEnd_0 19 rfl rfl)
theorem dX6_wordEnd_22 : decode cX6_wordEnd 22 = .ok (.iinc 2 1, 3) := dk_132 2 1 (dk_at dksX6_wordEnd_1 0 rfl rfl)
theorem dX6_wordEnd_25 : decode cX6_wordEnd 25 = .ok (.goto (-23), 3) := dk_167 255 233 (dk_at dksX6_wordEnd_1 3 rfl rfl)
theorem dX6_wordEnd_28 : decode cX6_wordEnd 28 = .ok (.iload_n 2, 1) := dk_28 (dk_at dksX6_wordEnd_1 6 rfl rfl)
theorem dX6_wordEnd_29 : decode cX6_wordEnd 29 = .ok (.ireturn, 1) := dk_172 (dk_at dksX6_wordEnd_1 7 rfl rfl)
abbrev cX6_taken : ByteArray := prog_12_method_4_code
def yX6_taken : MethodName := ⟨RX6, "taken", "(III)I"⟩
def dkwX6_taken_3 : List UInt8 := [132, 5, 1, 167, 255, 189, 21, 4, 172]
abbrev dktX6_taken_3 : List UInt8 := dkwX6_taken_3 ++ []
def dkwX6_taken_2 : List UInt8 := [190, 42, 180, 0, 46, 180, 0, 54, 21, 4, 50, 180, 0, 60, 190, 164, 0, 7, 21, 5, 54, 4]
abbrev dktX6_taken_2 : List UInt8 := dkwX6_taken_2 ++ dktX6_taken_3
def dkwX6_taken_1 : List UInt8 := [182, 0, 87, 153, 0, 43, 21, 4, 155, 0, 34, 42, 180, 0, 46, 180, 0, 54, 21, 5, 50, 180, 0, 60]
abbrev dktX6_taken_1 : List UInt8 := dkwX6_taken_1 ++ dktX6_taken_2
def dkwX6_taken_0 : List UInt8 := [2, 54, 4, 3, 54, 5, 21, 5, 42, 180, 0, 46, 180, 0, 84, 162, 0, 61, 42, 21, 5, 27, 28, 29]
abbrev dktX6_taken_0 : List UInt8 := dkwX6_taken_0 ++ dktX6_taken_1
theorem dksX6_taken_0 : cX6_taken.data.toList.drop 0 = dktX6_taken_0 := by decide +kernel
theorem dksX6_taken_1 : cX6_taken.data.toList.drop 24 = dktX6_taken_1 := dk_seg dksX6_taken_0 24 rfl rfl
theorem dksX6_taken_2 : cX6_taken.data.toList.drop 48 = dktX6_taken_2 := dk_seg dksX6_taken_1 24 rfl rfl
theorem dksX6_taken_3 : cX6_taken.data.toList.drop 70 = dktX6_taken_3 := dk_seg dksX6_taken_2 22 rfl rfl
theorem dX6_taken_0 : decode cX6_taken 0 = .ok (.iconst (-1), 1) := dk_2 (dk_at dksX6_taken_0 0 rfl rfl)
theorem dX6_taken_1 : decode cX6_taken 1 = .ok (.istore 4, 2) := dk_54 4 (dk_at dksX6_taken_0 1 rfl rfl)
theorem dX6_taken_3 : decode cX6_taken 3 = .ok (.iconst 0, 1) := dk_3 (dk_at dksX6_taken_0 3 rfl rfl)
theorem dX6_taken_4 : decode cX6_taken 4 = .ok (.istore 5, 2) := dk_54 5 (dk_at dksX6_taken_0 4 rfl rfl)
theorem dX6_taken_6 : decode cX6_taken 6 = .ok (.iload 5, 2) := dk_21 5 (dk_at dksX6_taken_0 6 rfl rfl)
theorem dX6_taken_8 : decode cX6_taken 8 = .ok (.aload_n 0, 1) := dk_42 (dk_at dksX6_taken_0 8 rfl rfl)
theorem dX6_taken_9 : decode cX6_taken 9 = .ok (.getfield 46, 3) := dk_180 0 46 (dk_at dksX6_taken_0 9 rfl rfl)
theorem dX6_taken_12 : decode cX6_taken 12 = .ok (.getfield 84, 3) := dk_180 0 84 (dk_at dksX6_taken_0 12 rfl rfl)
theorem dX6_taken_15 : decode cX6_taken 15 = .ok (.if_icmp .ge 61, 3) := dk_162 0 61 (dk_at dksX6_taken_0 15 rfl rfl)
theorem dX6_taken_18 : decode cX6_taken 18 = .ok (.aload_n 0, 1) := dk_42 (dk_at dksX6_taken_0 18 rfl rfl)
theorem dX6_taken_19 : decode cX6_taken 19 = .ok (.iload 5, 2) := dk_21 5 (dk_at dksX6_taken_0 19 rfl rfl)
theorem dX6_taken_21 : decode cX6_taken 21 = .ok (.iload_n 1, 1) := dk_27 (dk_at dksX6_taken_0 21 rfl rfl)
theorem dX6_taken_22 : decode cX6_taken 22 = .ok (.iload_n 2, 1) := dk_28 (dk_at dksX6_taken_0 22 rfl rfl)
theorem dX6_taken_23 : decode cX6_taken 23 = .ok (.iload_n 3, 1) := dk_29 (dk_at dksX6_taken_0 23 rfl rfl)
theorem dX6_taken_24 : decode cX6_taken 24 = .ok (.invokevirtual 87, 3) := dk_182 0 87 (dk_at dksX6_taken_1 0 rfl rfl)
theorem dX6_taken_27 : decode cX6_taken 27 = .ok (.ifCond .eq 43, 3) := dk_153 0 43 (dk_at dksX6_taken_1 3 rfl rfl)
theorem dX6_taken_30 : decode cX6_taken 30 = .ok (.iload 4, 2) := dk_21 4 (dk_at dksX6_taken_1 6 rfl rfl)
theorem dX6_taken_32 : decode cX6_taken 32 = .ok (.ifCond .lt 34, 3) := dk_155 0 34 (dk_at dksX6_taken_1 8 rfl rfl)
theorem dX6_taken_35 : decode cX6_taken 35 = .ok (.aload_n 0, 1) := dk_42 (dk_at dksX6_taken_1 11 rfl rfl)
theorem dX6_taken_36 : decode cX6_taken 36 = .ok (.getfield 46, 3) := dk_180 0 46 (dk_at dksX6_taken_1 12 rfl rfl)
theorem dX6_taken_39 : decode cX6_taken 39 = .ok (.getfield 54, 3) := dk_180 0 54 (dk_at dksX6_taken_1 15 rfl rfl)
theorem dX6_taken_42 : decode cX6_taken 42 = .ok (.iload 5, 2) := dk_21 5 (dk_at dksX6_taken_1 18 rfl rfl)
theorem dX6_taken_44 : decode cX6_taken 44 = .ok (.aaload, 1) := dk_50 (dk_at dksX6_taken_1 20 rfl rfl)
theorem dX6_taken_45 : decode cX6_taken 45 = .ok (.getfield 60, 3) := dk_180 0 60 (dk_at dksX6_taken_1 21 rfl rfl)
theorem dX6_taken_48 : decode cX6_taken 48 = .ok (.arraylength, 1) := dk_190 (dk_at dksX6_taken_2 0 rfl rfl)
theorem dX6_taken_49 : decode cX6_taken 49 = .ok (.aload_n 0, 1) := dk_42 (dk_at dksX6_taken_2 1 rfl rfl)
theorem dX6_taken_50 : decode cX6_taken 50 = .ok (.getfield 46, 3) := dk_180 0 46 (dk_at dksX6_taken_2 2 rfl rfl)
theorem dX6_taken_53 : decode cX6_taken 53 = .ok (.getfield 54, 3) := dk_180 0 54 (dk_at dksX6_taken_2 5 rfl rfl)
theorem dX6_taken_56 : decode cX6_taken 56 = .ok (.iload 4, 2) := dk_21 4 (dk_at dksX6_taken_2 8 rfl rfl)
theorem dX6_taken_58 : decode cX6_taken 58 = .ok (.aaload, 1) := dk_50 (dk_at dksX6_taken_2 10 rfl rfl)
theorem dX6_taken_59 : decode cX6_taken 59 = .ok (.getfield 60, 3) := dk_180 0 60 (dk_at dksX6_taken_2 11 rfl rfl)
theorem dX6_taken_62 : decode cX6_taken 62 = .ok (.arraylength, 1) := dk_190 (dk_at dksX6_taken_2 14 rfl rfl)
theorem dX6_taken_63 : decode cX6_taken 63 = .ok (.if_icmp .le 7, 3) := dk_164 0 7 (dk_at dksX6_taken_2 15 rfl rfl)
theorem dX6_taken_66 : decode cX6_taken 66 = .ok (.iload 5, 2) := dk_21 5 (dk_at dksX6_taken_2 18 rfl rfl)
theorem dX6_taken_68 : decode cX6_taken 68 = .ok (.istore 4, 2) := dk_54 4 (dk_at dksX6_taken_2 20 rfl rfl)
theorem dX6_taken_70 : decode cX6_taken 70 = .ok (.iinc 5 1, 3) := dk_132 5 1 (dk_at dksX6_taken_3 0 rfl rfl)
theorem dX6_taken_73 : decode cX6_taken 73 = .ok (.goto (-67), 3) := dk_167 255 189 (dk_at dksX6_taken_3 3 rfl rfl)
theorem dX6_taken_76 : decode cX6_taken 76 = .ok (.iload 4, 2) := dk_21 4 (dk_at dksX6_taken_3 6 rfl rfl)
theorem dX6_taken_78 : decode cX6_taken 78 = .ok (.ireturn, 1) := dk_172 (dk_at dksX6_taken_3 8 rfl rfl)
abbrev cX6_stands : ByteArray := prog_12_method_3_code
def yX6_stands : MethodName := ⟨RX6, "stands", "(IIII)Z"⟩
def dkwX6_stands_5 : List UInt8 := [21, 7, 51, 159, 0, 5, 3, 172, 132, 7, 1, 167, 255, 201, 4, 172]
abbrev dktX6_stands_5 : List UInt8 := dkwX6_stands_5 ++ []
def dkwX6_stands_4 : List UInt8 := [184, 0, 77, 154, 0, 26, 42, 180, 0, 74, 28, 21, 7, 96, 51, 184, 0, 80, 25, 5, 180, 0, 60]
abbrev dktX6_stands_4 : List UInt8 := dkwX6_stands_4 ++ dktX6_stands_5
def dkwX6_stands_3 : List UInt8 := [54, 7, 21, 7, 21, 6, 162, 0, 54, 21, 7, 158, 0, 18, 42, 180, 0, 74, 28, 21, 7, 96, 51]
abbrev dktX6_stands_3 : List UInt8 := dkwX6_stands_3 ++ dktX6_stands_4
def dkwX6_stands_2 : List UInt8 := [28, 21, 6, 96, 21, 4, 160, 0, 7, 4, 167, 0, 4, 3, 182, 0, 70, 154, 0, 5, 3, 172, 3]
abbrev dktX6_stands_2 : List UInt8 := dkwX6_stands_2 ++ dktX6_stands_3
def dkwX6_stands_1 : List UInt8 := [153, 0, 44, 28, 21, 6, 96, 21, 4, 163, 0, 35, 25, 5, 28, 29, 160, 0, 7, 4, 167, 0, 4, 3]
abbrev dktX6_stands_1 : List UInt8 := dkwX6_stands_1 ++ dktX6_stands_2
def dkwX6_stands_0 : List UInt8 := [42, 180, 0, 46, 180, 0, 54, 27, 50, 58, 5, 25, 5, 180, 0, 60, 190, 54, 6, 42, 27, 182, 0, 66]
abbrev dktX6_stands_0 : List UInt8 := dkwX6_stands_0 ++ dktX6_stands_1
theorem dksX6_stands_0 : cX6_stands.data.toList.drop 0 = dktX6_stands_0 := by decide +kernel
theorem dksX6_stands_1 : cX6_stands.data.toList.drop 24 = dktX6_stands_1 := dk_seg dksX6_stands_0 24 rfl rfl
theorem dksX6_stands_2 : cX6_stands.data.toList.drop 48 = dktX6_stands_2 := dk_seg dksX6_stands_1 24 rfl rfl
theorem dksX6_stands_3 : cX6_stands.data.toList.drop 71 = dktX6_stands_3 := dk_seg dksX6_stands_2 23 rfl rfl
theorem dksX6_stands_4 : cX6_stands.data.toList.drop 94 = dktX6_stands_4 := dk_seg dksX6_stands_3 23 rfl rfl
theorem dksX6_stands_5 : cX6_stands.data.toList.drop 117 = dktX6_stands_5 := dk_seg dksX6_stands_4 23 rfl rfl
theorem dX6_stands_0 : decode cX6_stands 0 = .ok (.aload_n 0, 1) := dk_42 (dk_at dksX6_stands_0 0 rfl rfl)
theorem dX6_stands_1 : decode cX6_stands 1 = .ok (.getfield 46, 3) := dk_180 0 46 (dk_at dksX6_stands_0 1 rfl rfl)
theorem dX6_stands_4 : decode cX6_stands 4 = .ok (.getfield 54, 3) := dk_180 0 54 (dk_at dksX6_stands_0 4 rfl rfl)
theorem dX6_stands_7 : decode cX6_stands 7 = .ok (.iload_n 1, 1) := dk_27 (dk_at dksX6_stands_0 7 rfl rfl)
theorem dX6_stands_8 : decode cX6_stands 8 = .ok (.aaload, 1) := dk_50 (dk_at dksX6_stands_0 8 rfl rfl)
theorem dX6_stands_9 : decode cX6_stands 9 = .ok (.astore 5, 2) := dk_58 5 (dk_at dksX6_stands_0 9 rfl rfl)
theorem dX6_stands_11 : decode cX6_stands 11 = .ok (.aload 5, 2) := dk_25 5 (dk_at dksX6_stands_0 11 rfl rfl)
theorem dX6_stands_13 : decode cX6_stands 13 = .ok (.getfield 60, 3) := dk_180 0 60 (dk_at dksX6_stands_0 13 rfl rfl)
theorem dX6_stands_16 : decode cX6_stands 16 = .ok (.arraylength, 1) := dk_190 (dk_at dksX6_stands_0 16 rfl rfl)
theorem dX6_stands_17 : decode cX6_stands 17 = .ok (.istore 6, 2) := dk_54 6 (dk_at dksX6_stands_0 17 rfl rfl)
theorem dX6_stands_19 : decode cX6_stands 19 = .ok (.aload_n 0, 1) := dk_42 (dk_at dksX6_stands_0 19 rfl rfl)
theorem dX6_stands_20 : decode cX6_stands 20 = .ok (.iload_n 1, 1) := dk_27 (dk_at dksX6_stands_0 20 rfl rfl)
theorem dX6_stands_21 : decode cX6_stands 21 = .ok (.invokevirtual 66, 3) := dk_182 0 66 (dk_at dksX6_stands_0 21 rfl rfl)
theorem dX6_stands_24 : decode cX6_stands 24 = .ok (.ifCond .eq 44, 3) := dk_153 0 44 (dk_at dksX6_stands_1 0 rfl rfl)
theorem dX6_stands_27 : decode cX6_stands 27 = .ok (.iload_n 2, 1) := dk_28 (dk_at dksX6_stands_1 3 rfl rfl)
theorem dX6_stands_28 : decode cX6_stands 28 = .ok (.iload 6, 2) := dk_21 6 (dk_at dksX6_stands_1 4 rfl rfl)
theorem dX6_stands_30 : decode cX6_stands 30 = .ok (.iadd, 1) := dk_96 (dk_at dksX6_stands_1 6 rfl rfl)
theorem dX6_stands_31 : decode cX6_stands 31 = .ok (.iload 4, 2) := dk_21 4 (dk_at dksX6_stands_1 7 rfl rfl)
theorem dX6_stands_33 : decode cX6_stands 33 = .ok (.if_icmp .gt 35, 3) := dk_163 0 35 (dk_at dksX6_stands_1 9 rfl rfl)
theorem dX6_stands_36 : decode cX6_stands 36 = .ok (.aload 5, 2) := dk_25 5 (dk_at dksX6_stands_1 12 rfl rfl)
theorem dX6_stands_38 : decode cX6_stands 38 = .ok (.iload_n 2, 1) := dk_28 (dk_at dksX6_stands_1 14 rfl rfl)
theorem dX6_stands_39 : decode cX6_stands 39 = .ok (.iload_n 3, 1) := dk_29 (dk_at dksX6_stands_1 15 rfl rfl)
theorem dX6_stands_40 : decode cX6_stands 40 = .ok (.if_icmp .ne 7, 3) := dk_160 0 7 (dk_at dksX6_stands_1 16 rfl rfl)
theorem dX6_stands_43 : decode cX6_stands 43 = .ok (.iconst 1, 1) := dk_4 (dk_at dksX6_stands_1 19 rfl rfl)
theorem dX6_stands_44 : decode cX6_stands 44 = .ok (.goto 4, 3) := dk_167 0 4 (dk_at dksX6_stands_1 20 rfl rfl)
theorem dX6_stands_47 : decode cX6_stands 47 = .ok (.iconst 0, 1) := dk_3 (dk_at dksX6_stands_1 23 rfl rfl)
theorem dX6_stands_48 : decode cX6_stands 48 = .ok (.iload_n 2, 1) := dk_28 (dk_at dksX6_stands_2 0 rfl rfl)
theorem dX6_stands_49 : decode cX6_stands 49 = .ok (.iload 6, 2) := dk_21 6 (dk_at dksX6_stands_2 1 rfl rfl)
theorem dX6_stands_51 : decode cX6_stands 51 = .ok (.iadd, 1) := dk_96 (dk_at dksX6_stands_2 3 rfl rfl)
theorem dX6_stands_52 : decode cX6_stands 52 = .ok (.iload 4, 2) := dk_21 4 (dk_at dksX6_stands_2 4 rfl rfl)
theorem dX6_stands_54 : decode cX6_stands 54 = .ok (.if_icmp .ne 7, 3) := dk_160 0 7 (dk_at dksX6_stands_2 6 rfl rfl)
theorem dX6_stands_57 : decode cX6_stands 57 = .ok (.iconst 1, 1) := dk_4 (dk_at dksX6_stands_2 9 rfl rfl)
theorem dX6_stands_58 : decode cX6_stands 58 = .ok (.goto 4, 3) := dk_167 0 4 (dk_at dksX6_stands_2 10 rfl rfl)
theorem dX6_stands_61 : decode cX6_stands 61 = .ok (.iconst 0, 1) := dk_3 (dk_at dksX6_stands_2 13 rfl rfl)
theorem dX6_stands_62 : decode cX6_stands 62 = .ok (.invokevirtual 70, 3) := dk_182 0 70 (dk_at dksX6_stands_2 14 rfl rfl)
theorem dX6_stands_65 : decode cX6_stands 65 = .ok (.ifCond .ne 5, 3) := dk_154 0 5 (dk_at dksX6_stands_2 17 rfl rfl)
theorem dX6_stands_68 : decode cX6_stands 68 = .ok (.iconst 0, 1) := dk_3 (dk_at dksX6_stands_2 20 rfl rfl)
theorem dX6_stands_69 : decode cX6_stands 69 = .ok (.ireturn, 1) := dk_172 (dk_at dksX6_stands_2 21 rfl rfl)
theorem dX6_stands_70 : decode cX6_stands 70 = .ok (.iconst 0, 1) := dk_3 (dk_at dksX6_stands_2 22 rfl rfl)
theorem dX6_stands_71 : decode cX6_stands 71 = .ok (.istore 7, 2) := dk_54 7 (dk_at dksX6_stands_3 0 rfl rfl)
theorem dX6_stands_73 : decode cX6_stands 73 = .ok (.iload 7, 2) := dk_21 7 (dk_at dksX6_stands_3 2 rfl rfl)
theorem dX6_stands_75 : decode cX6_stands 75 = .ok (.iload 6, 2) := dk_21 6 (dk_at dksX6_stands_3 4 rfl rfl)
theorem dX6_stands_77 : decode cX6_stands 77 = .ok (.if_icmp .ge 54, 3) := dk_162 0 54 (dk_at dksX6_stands_3 6 rfl rfl)
theorem dX6_stands_80 : decode cX6_stands 80 = .ok (.iload 7, 2) := dk_21 7 (dk_at dksX6_stands_3 9 rfl rfl)
theorem dX6_stands_82 : decode cX6_stands 82 = .ok (.ifCond .le 18, 3) := dk_158 0 18 (dk_at dksX6_stands_3 11 rfl rfl)
theorem dX6_stands_85 : decode cX6_stands 85 = .ok (.aload_n 0, 1) := dk_42 (dk_at dksX6_stands_3 14 rfl rfl)
theorem dX6_stands_86 : decode cX6_stands 86 = .ok (.getfield 74, 3) := dk_180 0 74 (dk_at dksX6_stands_3 15 rfl rfl)
theorem dX6_stands_89 : decode cX6_stands 89 = .ok (.iload_n 2, 1) := dk_28 (dk_at dksX6_stands_3 18 rfl rfl)
theorem dX6_stands_90 : decode cX6_stands 90 = .ok (.iload 7, 2) := dk_21 7 (dk_at dksX6_stands_3 19 rfl rfl)
theorem dX6_stands_92 : decode cX6_stands 92 = .ok (.iadd, 1) := dk_96 (dk_at dksX6_stands_3 21 rfl rfl)
theorem dX6_stands_93 : decode cX6_stands 93 = .ok (.baload, 1) := dk_51 (dk_at dksX6_stands_3 22 rfl rfl)
theorem dX6_stands_94 : decode cX6_stands 94 = .ok (.invokestatic 77, 3) := dk_184 0 77 (dk_at dksX6_stands_4 0 rfl rfl)
theorem dX6_stands_97 : decode cX6_stands 97 = .ok (.ifCond .ne 26, 3) := dk_154 0 26 (dk_at dksX6_stands_4 3 rfl rfl)
theorem dX6_stands_100 : decode cX6_stands 100 = .ok (.aload_n 0, 1) := dk_42 (dk_at dksX6_stands_4 6 rfl rfl)
theorem dX6_stands_101 : decode cX6_stands 101 = .ok (.getfield 74, 3) := dk_180 0 74 (dk_at dksX6_stands_4 7 rfl rfl)
theorem dX6_stands_104 : decode cX6_stands 104 = .ok (.iload_n 2, 1) := dk_28 (dk_at dksX6_stands_4 10 rfl rfl)
theorem dX6_stands_105 : decode cX6_stands 105 = .ok (.iload 7, 2) := dk_21 7 (dk_at dksX6_stands_4 11 rfl rfl)
theorem dX6_stands_107 : decode cX6_stands 107 = .ok (.iadd, 1) := dk_96 (dk_at dksX6_stands_4 13 rfl rfl)
theorem dX6_stands_108 : decode cX6_stands 108 = .ok (.baload, 1) := dk_51 (dk_at dksX6_stands_4 14 rfl rfl)
theorem dX6_stands_109 : decode cX6_stands 109 = .ok (.invokestatic 80, 3) := dk_184 0 80 (dk_at dksX6_stands_4 15 rfl rfl)
theorem dX6_stands_112 : decode cX6_stands 112 = .ok (.aload 5, 2) := dk_25 5 (dk_at dksX6_stands_4 18 rfl rfl)
theorem dX6_stands_114 : decode cX6_stands 114 = .ok (.getfield 60, 3) := dk_180 0 60 (dk_at dksX6_stands_4 20 rfl rfl)
theorem dX6_stands_117 : decode cX6_stands 117 = .ok (.iload 7, 2) := dk_21 7 (dk_at dksX6_stands_5 0 rfl rfl)
theorem dX6_stands_119 : decode cX6_stands 119 = .ok (.baload, 1) := dk_51 (dk_at dksX6_stands_5 2 rfl rfl)
theorem dX6_stands_120 : decode cX6_stands 120 = .ok (.if_icmp .eq 5, 3) := dk_159 0 5 (dk_at dksX6_stands_5 3 rfl rfl)
theorem dX6_stands_123 : decode cX6_stands 123 = .ok (.iconst 0, 1) := dk_3 (dk_at dksX6_stands_5 6 rfl rfl)
theorem dX6_stands_124 : decode cX6_stands 124 = .ok (.ireturn, 1) := dk_172 (dk_at dksX6_stands_5 7 rfl rfl)
theorem dX6_stands_125 : decode cX6_stands 125 = .ok (.iinc 7 1, 3) := dk_132 7 1 (dk_at dksX6_stands_5 8 rfl rfl)
theorem dX6_stands_128 : decode cX6_stands 128 = .ok (.goto (-55), 3) := dk_167 255 201 (dk_at dksX6_stands_5 11 rfl rfl)
theorem dX6_stands_131 : decode cX6_stands 131 = .ok (.iconst 1, 1) := dk_4 (dk_at dksX6_stands_5 14 rfl rfl)
theorem dX6_stands_132 : decode cX6_stands 132 = .ok (.ireturn, 1) := dk_172 (dk_at dksX6_stands_5 15 rfl rfl)
abbrev cX6_isThere : ByteArray := prog_12_method_2_code
def yX6_isThere : MethodName := ⟨RX6, "isThere", "(I)Z"⟩
def dkwX6_isThere_0 : List UInt8 := [42, 180, 0, 50, 27, 122, 4, 126, 154, 0, 7, 4, 167, 0, 4, 3, 172]
abbrev dktX6_isThere_0 : List UInt8 := dkwX6_isThere_0 ++ []
theorem dksX6_isThere_0 : cX6_isThere.data.toList.drop 0 = dktX6_isThere_0 := by decide +kernel
theorem dX6_isThere_0 : decode cX6_isThere 0 = .ok (.aload_n 0, 1) := dk_42 (dk_at dksX6_isThere_0 0 rfl rfl)
theorem dX6_isThere_1 : decode cX6_isThere 1 = .ok (.getfield 50, 3) := dk_180 0 50 (dk_at dksX6_isThere_0 1 rfl rfl)
theorem dX6_isThere_4 : decode cX6_isThere 4 = .ok (.iload_n 1, 1) := dk_27 (dk_at dksX6_isThere_0 4 rfl rfl)
theorem dX6_isThere_5 : decode cX6_isThere 5 = .ok (.ishr, 1) := dk_122 (dk_at dksX6_isThere_0 5 rfl rfl)
theorem dX6_isThere_6 : decode cX6_isThere 6 = .ok (.iconst 1, 1) := dk_4 (dk_at dksX6_isThere_0 6 rfl rfl)
theorem dX6_isThere_7 : decode cX6_isThere 7 = .ok (.iand, 1) := dk_126 (dk_at dksX6_isThere_0 7 rfl rfl)
theorem dX6_isThere_8 : decode cX6_isThere 8 = .ok (.ifCond .ne 7, 3) := dk_154 0 7 (dk_at dksX6_isThere_0 8 rfl rfl)
theorem dX6_isThere_11 : decode cX6_isThere 11 = .ok (.iconst 1, 1) := dk_4 (dk_at dksX6_isThere_0 11 rfl rfl)
theorem dX6_isThere_12 : decode cX6_isThere 12 = .ok (.goto 4, 3) := dk_167 0 4 (dk_at dksX6_isThere_0 12 rfl rfl)
theorem dX6_isThere_15 : decode cX6_isThere 15 = .ok (.iconst 0, 1) := dk_3 (dk_at dksX6_isThere_0 15 rfl rfl)
theorem dX6_isThere_16 : decode cX6_isThere 16 = .ok (.ireturn, 1) := dk_172 (dk_at dksX6_isThere_0 16 rfl rfl)
abbrev cX6_sets_3 : ByteArray := prog_12_method_9_code
def yX6_sets_3 : MethodName := ⟨RX6, "sets", "(IZ)V"⟩
def dkwX6_sets_3_3 : List UInt8 := [3, 96, 181, 0, 109, 177]
abbrev dktX6_sets_3_3 : List UInt8 := dkwX6_sets_3_3 ++ []
def dkwX6_sets_3_2 : List UInt8 := [42, 89, 180, 0, 106, 4, 96, 181, 0, 106, 42, 89, 180, 0, 109, 28, 153, 0, 8, 45, 190, 167, 0, 4]
abbrev dktX6_sets_3_2 : List UInt8 := dkwX6_sets_3_2 ++ dktX6_sets_3_3
def dkwX6_sets_3_1 : List UInt8 := [45, 21, 4, 46, 27, 182, 0, 97, 132, 4, 1, 167, 255, 237, 42, 180, 0, 34, 27, 92, 46, 4, 96, 79]
abbrev dktX6_sets_3_1 : List UInt8 := dkwX6_sets_3_1 ++ dktX6_sets_3_2
def dkwX6_sets_3_0 : List UInt8 := [42, 180, 0, 46, 180, 0, 54, 27, 50, 180, 0, 104, 78, 3, 54, 4, 21, 4, 45, 190, 162, 0, 18, 42]
abbrev dktX6_sets_3_0 : List UInt8 := dkwX6_sets_3_0 ++ dktX6_sets_3_1
theorem dksX6_sets_3_0 : cX6_sets_3.data.toList.drop 0 = dktX6_sets_3_0 := by decide +kernel
theorem dksX6_sets_3_1 : cX6_sets_3.data.toList.drop 24 = dktX6_sets_3_1 := dk_seg dksX6_sets_3_0 24 rfl rfl
theorem dksX6_sets_3_2 : cX6_sets_3.data.toList.drop 48 = dktX6_sets_3_2 := dk_seg dksX6_sets_3_1 24 rfl rfl
theorem dksX6_sets_3_3 : cX6_sets_3.data.toList.drop 72 = dktX6_sets_3_3 := dk_seg dksX6_sets_3_2 24 rfl rfl
theorem dX6_sets_3_0 : decode cX6_sets_3 0 = .ok (.aload_n 0, 1) := dk_42 (dk_at dksX6_sets_3_0 0 rfl rfl)
theorem dX6_sets_3_1 : decode cX6_sets_3 1 = .ok (.getfield 46, 3) := dk_180 0 46 (dk_at dksX6_sets_3_0 1 rfl rfl)
theorem dX6_sets_3_4 : decode cX6_sets_3 4 = .ok (.getfield 54, 3) := dk_180 0 54 (dk_at dksX6_sets_3_0 4 rfl rfl)
theorem dX6_sets_3_7 : decode cX6_sets_3 7 = .ok (.iload_n 1, 1) := dk_27 (dk_at dksX6_sets_3_0 7 rfl rfl)
theorem dX6_sets_3_8 : decode cX6_sets_3 8 = .ok (.aaload, 1) := dk_50 (dk_at dksX6_sets_3_0 8 rfl rfl)
theorem dX6_sets_3_9 : decode cX6_sets_3 9 = .ok (.getfield 104, 3) := dk_180 0 104 (dk_at dksX6_sets_3_0 9 rfl rfl)
theorem dX6_sets_3_12 : decode cX6_sets_3 12 = .ok (.astore_n 3, 1) := dk_78 (dk_at dksX6_sets_3_0 12 rfl rfl)
theorem dX6_sets_3_13 : decode cX6_sets_3 13 = .ok (.iconst 0, 1) := dk_3 (dk_at dksX6_sets_3_0 13 rfl rfl)
theorem dX6_sets_3_14 : decode cX6_sets_3 14 = .ok (.istore 4, 2) := dk_54 4 (dk_at dksX6_sets_3_0 14 rfl rfl)
theorem dX6_sets_3_16 : decode cX6_sets_3 16 = .ok (.iload 4, 2) := dk_21 4 (dk_at dksX6_sets_3_0 16 rfl rfl)
theorem dX6_sets_3_18 : decode cX6_sets_3 18 = .ok (.aload_n 3, 1) := dk_45 (dk_at dksX6_sets_3_0 18 rfl rfl)
theorem dX6_sets_3_19 : decode cX6_sets_3 19 = .ok (.arraylength, 1) := dk_190 (dk_at dksX6_sets_3_0 19 rfl rfl)
theorem dX6_sets_3_20 : decode cX6_sets_3 20 = .ok (.if_icmp .ge 18, 3) := dk_162 0 18 (dk_at dksX6_sets_3_0 20 rfl rfl)
theorem dX6_sets_3_23 : decode cX6_sets_3 23 = .ok (.aload_n 0, 1) := dk_42 (dk_at dksX6_sets_3_0 23 rfl rfl)
theorem dX6_sets_3_24 : decode cX6_sets_3 24 = .ok (.aload_n 3, 1) := dk_45 (dk_at dksX6_sets_3_1 0 rfl rfl)
theorem dX6_sets_3_25 : decode cX6_sets_3 25 = .ok (.iload 4, 2) := dk_21 4 (dk_at dksX6_sets_3_1 1 rfl rfl)
theorem dX6_sets_3_27 : decode cX6_sets_3 27 = .ok (.iaload, 1) := dk_46 (dk_at dksX6_sets_3_1 3 rfl rfl)
theorem dX6_sets_3_28 : decode cX6_sets_3 28 = .ok (.iload_n 1, 1) := dk_27 (dk_at dksX6_sets_3_1 4 rfl rfl)
theorem dX6_sets_3_29 : decode cX6_sets_3 29 = .ok (.invokevirtual 97, 3) := dk_182 0 97 (dk_at dksX6_sets_3_1 5 rfl rfl)
theorem dX6_sets_3_32 : decode cX6_sets_3 32 = .ok (.iinc 4 1, 3) := dk_132 4 1 (dk_at dksX6_sets_3_1 8 rfl rfl)
theorem dX6_sets_3_35 : decode cX6_sets_3 35 = .ok (.goto (-19), 3) := dk_167 255 237 (dk_at dksX6_sets_3_1 11 rfl rfl)
theorem dX6_sets_3_38 : decode cX6_sets_3 38 = .ok (.aload_n 0, 1) := dk_42 (dk_at dksX6_sets_3_1 14 rfl rfl)
theorem dX6_sets_3_39 : decode cX6_sets_3 39 = .ok (.getfield 34, 3) := dk_180 0 34 (dk_at dksX6_sets_3_1 15 rfl rfl)
theorem dX6_sets_3_42 : decode cX6_sets_3 42 = .ok (.iload_n 1, 1) := dk_27 (dk_at dksX6_sets_3_1 18 rfl rfl)
theorem dX6_sets_3_43 : decode cX6_sets_3 43 = .ok (.dup2, 1) := dk_92 (dk_at dksX6_sets_3_1 19 rfl rfl)
theorem dX6_sets_3_44 : decode cX6_sets_3 44 = .ok (.iaload, 1) := dk_46 (dk_at dksX6_sets_3_1 20 rfl rfl)
theorem dX6_sets_3_45 : decode cX6_sets_3 45 = .ok (.iconst 1, 1) := dk_4 (dk_at dksX6_sets_3_1 21 rfl rfl)
theorem dX6_sets_3_46 : decode cX6_sets_3 46 = .ok (.iadd, 1) := dk_96 (dk_at dksX6_sets_3_1 22 rfl rfl)
theorem dX6_sets_3_47 : decode cX6_sets_3 47 = .ok (.iastore, 1) := dk_79 (dk_at dksX6_sets_3_1 23 rfl rfl)
theorem dX6_sets_3_48 : decode cX6_sets_3 48 = .ok (.aload_n 0, 1) := dk_42 (dk_at dksX6_sets_3_2 0 rfl rfl)
theorem dX6_sets_3_49 : decode cX6_sets_3 49 = .ok (.dup, 1) := dk_89 (dk_at dksX6_sets_3_2 1 rfl rfl)
theorem dX6_sets_3_50 : decode cX6_sets_3 50 = .ok (.getfield 106, 3) := dk_180 0 106 (dk_at dksX6_sets_3_2 2 rfl rfl)
theorem dX6_sets_3_53 : decode cX6_sets_3 53 = .ok (.iconst 1, 1) := dk_4 (dk_at dksX6_sets_3_2 5 rfl rfl)
theorem dX6_sets_3_54 : decode cX6_sets_3 54 = .ok (.iadd, 1) := dk_96 (dk_at dksX6_sets_3_2 6 rfl rfl)
theorem dX6_sets_3_55 : decode cX6_sets_3 55 = .ok (.putfield 106, 3) := dk_181 0 106 (dk_at dksX6_sets_3_2 7 rfl rfl)
theorem dX6_sets_3_58 : decode cX6_sets_3 58 = .ok (.aload_n 0, 1) := dk_42 (dk_at dksX6_sets_3_2 10 rfl rfl)
theorem dX6_sets_3_59 : decode cX6_sets_3 59 = .ok (.dup, 1) := dk_89 (dk_at dksX6_sets_3_2 11 rfl rfl)
theorem dX6_sets_3_60 : decode cX6_sets_3 60 = .ok (.getfield 109, 3) := dk_180 0 109 (dk_at dksX6_sets_3_2 12 rfl rfl)
theorem dX6_sets_3_63 : decode cX6_sets_3 63 = .ok (.iload_n 2, 1) := dk_28 (dk_at dksX6_sets_3_2 15 rfl rfl)
theorem dX6_sets_3_64 : decode cX6_sets_3 64 = .ok (.ifCond .eq 8, 3) := dk_153 0 8 (dk_at dksX6_sets_3_2 16 rfl rfl)
theorem dX6_sets_3_67 : decode cX6_sets_3 67 = .ok (.aload_n 3, 1) := dk_45 (dk_at dksX6_sets_3_2 19 rfl rfl)
theorem dX6_sets_3_68 : decode cX6_sets_3 68 = .ok (.arraylength, 1) := dk_190 (dk_at dksX6_sets_3_2 20 rfl rfl)
theorem dX6_sets_3_69 : decode cX6_sets_3 69 = .ok (.goto 4, 3) := dk_167 0 4 (dk_at dksX6_sets_3_2 21 rfl rfl)
theorem dX6_sets_3_72 : decode cX6_sets_3 72 = .ok (.iconst 0, 1) := dk_3 (dk_at dksX6_sets_3_3 0 rfl rfl)
theorem dX6_sets_3_73 : decode cX6_sets_3 73 = .ok (.iadd, 1) := dk_96 (dk_at dksX6_sets_3_3 1 rfl rfl)
theorem dX6_sets_3_74 : decode cX6_sets_3 74 = .ok (.putfield 109, 3) := dk_181 0 109 (dk_at dksX6_sets_3_3 2 rfl rfl)
theorem dX6_sets_3_77 : decode cX6_sets_3 77 = .ok (.return_, 1) := dk_177 (dk_at dksX6_sets_3_3 5 rfl rfl)
abbrev cX6_figure : ByteArray := prog_12_method_12_code
def yX6_figure : MethodName := ⟨RX6, "figure", "(I)I"⟩
def dkwX6_figure_4 : List UInt8 := [28, 172]
abbrev dktX6_figure_4 : List UInt8 := dkwX6_figure_4 ++ []
def dkwX6_figure_3 : List UInt8 := [180, 0, 3, 180, 0, 123, 7, 28, 182, 0, 127, 191, 42, 29, 3, 182, 0, 139, 132, 2, 1, 167, 255, 199]
abbrev dktX6_figure_3 : List UInt8 := dkwX6_figure_3 ++ dktX6_figure_4
def dkwX6_figure_2 : List UInt8 := [28, 51, 184, 0, 145, 153, 0, 43, 42, 42, 180, 0, 74, 28, 51, 182, 0, 148, 62, 29, 156, 0, 16, 42]
abbrev dktX6_figure_2 : List UInt8 := dkwX6_figure_2 ++ dktX6_figure_3
def dkwX6_figure_1 : List UInt8 := [42, 180, 0, 46, 180, 0, 142, 182, 0, 136, 27, 61, 28, 42, 180, 0, 112, 162, 0, 55, 42, 180, 0, 74]
abbrev dktX6_figure_1 : List UInt8 := dkwX6_figure_1 ++ dktX6_figure_2
def dkwX6_figure_0 : List UInt8 := [42, 180, 0, 46, 180, 0, 142, 156, 0, 16, 42, 180, 0, 3, 180, 0, 123, 7, 27, 182, 0, 127, 191, 42]
abbrev dktX6_figure_0 : List UInt8 := dkwX6_figure_0 ++ dktX6_figure_1
theorem dksX6_figure_0 : cX6_figure.data.toList.drop 0 = dktX6_figure_0 := by decide +kernel
theorem dksX6_figure_1 : cX6_figure.data.toList.drop 24 = dktX6_figure_1 := dk_seg dksX6_figure_0 24 rfl rfl
theorem dksX6_figure_2 : cX6_figure.data.toList.drop 48 = dktX6_figure_2 := dk_seg dksX6_figure_1 24 rfl rfl
theorem dksX6_figure_3 : cX6_figure.data.toList.drop 72 = dktX6_figure_3 := dk_seg dksX6_figure_2 24 rfl rfl
theorem dksX6_figure_4 : cX6_figure.data.toList.drop 96 = dktX6_figure_4 := dk_seg dksX6_figure_3 24 rfl rfl
theorem dX6_figure_0 : decode cX6_figure 0 = .ok (.aload_n 0, 1) := dk_42 (dk_at dksX6_figure_0 0 rfl rfl)
theorem dX6_figure_1 : decode cX6_figure 1 = .ok (.getfield 46, 3) := dk_180 0 46 (dk_at dksX6_figure_0 1 rfl rfl)
theorem dX6_figure_4 : decode cX6_figure 4 = .ok (.getfield 142, 3) := dk_180 0 142 (dk_at dksX6_figure_0 4 rfl rfl)
theorem dX6_figure_7 : decode cX6_figure 7 = .ok (.ifCond .ge 16, 3) := dk_156 0 16 (dk_at dksX6_figure_0 7 rfl rfl)
theorem dX6_figure_10 : decode cX6_figure 10 = .ok (.aload_n 0, 1) := dk_42 (dk_at dksX6_figure_0 10 rfl rfl)
theorem dX6_figure_11 : decode cX6_figure 11 = .ok (.getfield 3, 3) := dk_180 0 3 (dk_at dksX6_figure_0 11 rfl rfl)
theorem dX6_figure_14 : decode cX6_figure 14 = .ok (.getfield 123, 3) := dk_180 0 123 (dk_at dksX6_figure_0 14 rfl rfl)
theorem dX6_figure_17 : decode cX6_figure 17 = .ok (.iconst 4, 1) := dk_7 (dk_at dksX6_figure_0 17 rfl rfl)
theorem dX6_figure_18 : decode cX6_figure 18 = .ok (.iload_n 1, 1) := dk_27 (dk_at dksX6_figure_0 18 rfl rfl)
theorem dX6_figure_19 : decode cX6_figure 19 = .ok (.invokevirtual 127, 3) := dk_182 0 127 (dk_at dksX6_figure_0 19 rfl rfl)
theorem dX6_figure_22 : decode cX6_figure 22 = .ok (.athrow, 1) := dk_191 (dk_at dksX6_figure_0 22 rfl rfl)
theorem dX6_figure_23 : decode cX6_figure 23 = .ok (.aload_n 0, 1) := dk_42 (dk_at dksX6_figure_0 23 rfl rfl)
theorem dX6_figure_24 : decode cX6_figure 24 = .ok (.aload_n 0, 1) := dk_42 (dk_at dksX6_figure_1 0 rfl rfl)
theorem dX6_figure_25 : decode cX6_figure 25 = .ok (.getfield 46, 3) := dk_180 0 46 (dk_at dksX6_figure_1 1 rfl rfl)
theorem dX6_figure_28 : decode cX6_figure 28 = .ok (.getfield 142, 3) := dk_180 0 142 (dk_at dksX6_figure_1 4 rfl rfl)
theorem dX6_figure_31 : decode cX6_figure 31 = .ok (.invokevirtual 136, 3) := dk_182 0 136 (dk_at dksX6_figure_1 7 rfl rfl)
theorem dX6_figure_34 : decode cX6_figure 34 = .ok (.iload_n 1, 1) := dk_27 (dk_at dksX6_figure_1 10 rfl rfl)
theorem dX6_figure_35 : decode cX6_figure 35 = .ok (.istore_n 2, 1) := dk_61 (dk_at dksX6_figure_1 11 rfl rfl)
theorem dX6_figure_36 : decode cX6_figure 36 = .ok (.iload_n 2, 1) := dk_28 (dk_at dksX6_figure_1 12 rfl rfl)
theorem dX6_figure_37 : decode cX6_figure 37 = .ok (.aload_n 0, 1) := dk_42 (dk_at dksX6_figure_1 13 rfl rfl)
theorem dX6_figure_38 : decode cX6_figure 38 = .ok (.getfield 112, 3) := dk_180 0 112 (dk_at dksX6_figure_1 14 rfl rfl)
theorem dX6_figure_41 : decode cX6_figure 41 = .ok (.if_icmp .ge 55, 3) := dk_162 0 55 (dk_at dksX6_figure_1 17 rfl rfl)
theorem dX6_figure_44 : decode cX6_figure 44 = .ok (.aload_n 0, 1) := dk_42 (dk_at dksX6_figure_1 20 rfl rfl)
theorem dX6_figure_45 : decode cX6_figure 45 = .ok (.getfield 74, 3) := dk_180 0 74 (dk_at dksX6_figure_1 21 rfl rfl)
theorem dX6_figure_48 : decode cX6_figure 48 = .ok (.iload_n 2, 1) := dk_28 (dk_at dksX6_figure_2 0 rfl rfl)
theorem dX6_figure_49 : decode cX6_figure 49 = .ok (.baload, 1) := dk_51 (dk_at dksX6_figure_2 1 rfl rfl)
theorem dX6_figure_50 : decode cX6_figure 50 = .ok (.invokestatic 145, 3) := dk_184 0 145 (dk_at dksX6_figure_2 2 rfl rfl)
theorem dX6_figure_53 : decode cX6_figure 53 = .ok (.ifCond .eq 43, 3) := dk_153 0 43 (dk_at dksX6_figure_2 5 rfl rfl)
theorem dX6_figure_56 : decode cX6_figure 56 = .ok (.aload_n 0, 1) := dk_42 (dk_at dksX6_figure_2 8 rfl rfl)
theorem dX6_figure_57 : decode cX6_figure 57 = .ok (.aload_n 0, 1) := dk_42 (dk_at dksX6_figure_2 9 rfl rfl)
theorem dX6_figure_58 : decode cX6_figure 58 = .ok (.getfield 74, 3) := dk_180 0 74 (dk_at dksX6_figure_2 10 rfl rfl)
theorem dX6_figure_61 : decode cX6_figure 61 = .ok (.iload_n 2, 1) := dk_28 (dk_at dksX6_figure_2 13 rfl rfl)
theorem dX6_figure_62 : decode cX6_figure 62 = .ok (.baload, 1) := dk_51 (dk_at dksX6_figure_2 14 rfl rfl)
theorem dX6_figure_63 : decode cX6_figure 63 = .ok (.invokevirtual 148, 3) := dk_182 0 148 (dk_at dksX6_figure_2 15 rfl rfl)
theorem dX6_figure_66 : decode cX6_figure 66 = .ok (.istore_n 3, 1) := dk_62 (dk_at dksX6_figure_2 18 rfl rfl)
theorem dX6_figure_67 : decode cX6_figure 67 = .ok (.iload_n 3, 1) := dk_29 (dk_at dksX6_figure_2 19 rfl rfl)
theorem dX6_figure_68 : decode cX6_figure 68 = .ok (.ifCond .ge 16, 3) := dk_156 0 16 (dk_at dksX6_figure_2 20 rfl rfl)
theorem dX6_figure_71 : decode cX6_figure 71 = .ok (.aload_n 0, 1) := dk_42 (dk_at dksX6_figure_2 23 rfl rfl)
theorem dX6_figure_72 : decode cX6_figure 72 = .ok (.getfield 3, 3) := dk_180 0 3 (dk_at dksX6_figure_3 0 rfl rfl)
theorem dX6_figure_75 : decode cX6_figure 75 = .ok (.getfield 123, 3) := dk_180 0 123 (dk_at dksX6_figure_3 3 rfl rfl)
theorem dX6_figure_78 : decode cX6_figure 78 = .ok (.iconst 4, 1) := dk_7 (dk_at dksX6_figure_3 6 rfl rfl)
theorem dX6_figure_79 : decode cX6_figure 79 = .ok (.iload_n 2, 1) := dk_28 (dk_at dksX6_figure_3 7 rfl rfl)
theorem dX6_figure_80 : decode cX6_figure 80 = .ok (.invokevirtual 127, 3) := dk_182 0 127 (dk_at dksX6_figure_3 8 rfl rfl)
theorem dX6_figure_83 : decode cX6_figure 83 = .ok (.athrow, 1) := dk_191 (dk_at dksX6_figure_3 11 rfl rfl)
theorem dX6_figure_84 : decode cX6_figure 84 = .ok (.aload_n 0, 1) := dk_42 (dk_at dksX6_figure_3 12 rfl rfl)
theorem dX6_figure_85 : decode cX6_figure 85 = .ok (.iload_n 3, 1) := dk_29 (dk_at dksX6_figure_3 13 rfl rfl)
theorem dX6_figure_86 : decode cX6_figure 86 = .ok (.iconst 0, 1) := dk_3 (dk_at dksX6_figure_3 14 rfl rfl)
theorem dX6_figure_87 : decode cX6_figure 87 = .ok (.invokevirtual 139, 3) := dk_182 0 139 (dk_at dksX6_figure_3 15 rfl rfl)
theorem dX6_figure_90 : decode cX6_figure 90 = .ok (.iinc 2 1, 3) := dk_132 2 1 (dk_at dksX6_figure_3 18 rfl rfl)
theorem dX6_figure_93 : decode cX6_figure 93 = .ok (.goto (-57), 3) := dk_167 255 199 (dk_at dksX6_figure_3 21 rfl rfl)
theorem dX6_figure_96 : decode cX6_figure 96 = .ok (.iload_n 2, 1) := dk_28 (dk_at dksX6_figure_4 0 rfl rfl)
theorem dX6_figure_97 : decode cX6_figure 97 = .ok (.ireturn, 1) := dk_172 (dk_at dksX6_figure_4 1 rfl rfl)
abbrev cX6_digitRule : ByteArray := prog_12_method_6_code
def yX6_digitRule : MethodName := ⟨RX6, "digitRule", "(I)I"⟩
def dkwX6_digitRule_0 : List UInt8 := [42, 27, 16, 48, 160, 0, 8, 16, 106, 167, 0, 10, 16, 97, 27, 96, 16, 49, 100, 182, 0, 94, 172]
abbrev dktX6_digitRule_0 : List UInt8 := dkwX6_digitRule_0 ++ []
theorem dksX6_digitRule_0 : cX6_digitRule.data.toList.drop 0 = dktX6_digitRule_0 := by decide +kernel
theorem dX6_digitRule_0 : decode cX6_digitRule 0 = .ok (.aload_n 0, 1) := dk_42 (dk_at dksX6_digitRule_0 0 rfl rfl)
theorem dX6_digitRule_1 : decode cX6_digitRule 1 = .ok (.iload_n 1, 1) := dk_27 (dk_at dksX6_digitRule_0 1 rfl rfl)
theorem dX6_digitRule_2 : decode cX6_digitRule 2 = .ok (.bipush 48, 2) := dk_16 48 (dk_at dksX6_digitRule_0 2 rfl rfl)
theorem dX6_digitRule_4 : decode cX6_digitRule 4 = .ok (.if_icmp .ne 8, 3) := dk_160 0 8 (dk_at dksX6_digitRule_0 4 rfl rfl)
theorem dX6_digitRule_7 : decode cX6_digitRule 7 = .ok (.bipush 106, 2) := dk_16 106 (dk_at dksX6_digitRule_0 7 rfl rfl)
theorem dX6_digitRule_9 : decode cX6_digitRule 9 = .ok (.goto 10, 3) := dk_167 0 10 (dk_at dksX6_digitRule_0 9 rfl rfl)
theorem dX6_digitRule_12 : decode cX6_digitRule 12 = .ok (.bipush 97, 2) := dk_16 97 (dk_at dksX6_digitRule_0 12 rfl rfl)
theorem dX6_digitRule_14 : decode cX6_digitRule 14 = .ok (.iload_n 1, 1) := dk_27 (dk_at dksX6_digitRule_0 14 rfl rfl)
theorem dX6_digitRule_15 : decode cX6_digitRule 15 = .ok (.iadd, 1) := dk_96 (dk_at dksX6_digitRule_0 15 rfl rfl)
theorem dX6_digitRule_16 : decode cX6_digitRule 16 = .ok (.bipush 49, 2) := dk_16 49 (dk_at dksX6_digitRule_0 16 rfl rfl)
theorem dX6_digitRule_18 : decode cX6_digitRule 18 = .ok (.isub, 1) := dk_100 (dk_at dksX6_digitRule_0 18 rfl rfl)
theorem dX6_digitRule_19 : decode cX6_digitRule 19 = .ok (.invokevirtual 94, 3) := dk_182 0 94 (dk_at dksX6_digitRule_0 19 rfl rfl)
theorem dX6_digitRule_22 : decode cX6_digitRule 22 = .ok (.ireturn, 1) := dk_172 (dk_at dksX6_digitRule_0 22 rfl rfl)
abbrev cX6_justFor : ByteArray := prog_12_method_5_code
def yX6_justFor : MethodName := ⟨RX6, "justFor", "(I)I"⟩
def dkwX6_justFor_2 : List UInt8 := [172]
abbrev dktX6_justFor_2 : List UInt8 := dkwX6_justFor_2 ++ []
def dkwX6_justFor_1 : List UInt8 := [180, 0, 46, 180, 0, 54, 28, 50, 27, 182, 0, 91, 153, 0, 5, 28, 172, 132, 2, 1, 167, 255, 216, 2]
abbrev dktX6_justFor_1 : List UInt8 := dkwX6_justFor_1 ++ dktX6_justFor_2
def dkwX6_justFor_0 : List UInt8 := [3, 61, 28, 42, 180, 0, 46, 180, 0, 84, 162, 0, 35, 42, 28, 182, 0, 66, 153, 0, 21, 42]
abbrev dktX6_justFor_0 : List UInt8 := dkwX6_justFor_0 ++ dktX6_justFor_1
theorem dksX6_justFor_0 : cX6_justFor.data.toList.drop 0 = dktX6_justFor_0 := by decide +kernel
theorem dksX6_justFor_1 : cX6_justFor.data.toList.drop 22 = dktX6_justFor_1 := dk_seg dksX6_justFor_0 22 rfl rfl
theorem dksX6_justFor_2 : cX6_justFor.data.toList.drop 46 = dktX6_justFor_2 := dk_seg dksX6_justFor_1 24 rfl rfl
theorem dX6_justFor_0 : decode cX6_justFor 0 = .ok (.iconst 0, 1) := dk_3 (dk_at dksX6_justFor_0 0 rfl rfl)
theorem dX6_justFor_1 : decode cX6_justFor 1 = .ok (.istore_n 2, 1) := dk_61 (dk_at dksX6_justFor_0 1 rfl rfl)
theorem dX6_justFor_2 : decode cX6_justFor 2 = .ok (.iload_n 2, 1) := dk_28 (dk_at dksX6_justFor_0 2 rfl rfl)
theorem dX6_justFor_3 : decode cX6_justFor 3 = .ok (.aload_n 0, 1) := dk_42 (dk_at dksX6_justFor_0 3 rfl rfl)
theorem dX6_justFor_4 : decode cX6_justFor 4 = .ok (.getfield 46, 3) := dk_180 0 46 (dk_at dksX6_justFor_0 4 rfl rfl)
theorem dX6_justFor_7 : decode cX6_justFor 7 = .ok (.getfield 84, 3) := dk_180 0 84 (dk_at dksX6_justFor_0 7 rfl rfl)
theorem dX6_justFor_10 : decode cX6_justFor 10 = .ok (.if_icmp .ge 35, 3) := dk_162 0 35 (dk_at dksX6_justFor_0 10 rfl rfl)
theorem dX6_justFor_13 : decode cX6_justFor 13 = .ok (.aload_n 0, 1) := dk_42 (dk_at dksX6_justFor_0 13 rfl rfl)
theorem dX6_justFor_14 : decode cX6_justFor 14 = .ok (.iload_n 2, 1) := dk_28 (dk_at dksX6_justFor_0 14 rfl rfl)
theorem dX6_justFor_15 : decode cX6_justFor 15 = .ok (.invokevirtual 66, 3) := dk_182 0 66 (dk_at dksX6_justFor_0 15 rfl rfl)
theorem dX6_justFor_18 : decode cX6_justFor 18 = .ok (.ifCond .eq 21, 3) := dk_153 0 21 (dk_at dksX6_justFor_0 18 rfl rfl)
theorem dX6_justFor_21 : decode cX6_justFor 21 = .ok (.aload_n 0, 1) := dk_42 (dk_at dksX6_justFor_0 21 rfl rfl)
theorem dX6_justFor_22 : decode cX6_justFor 22 = .ok (.getfield 46, 3) := dk_180 0 46 (dk_at dksX6_justFor_1 0 rfl rfl)
theorem dX6_justFor_25 : decode cX6_justFor 25 = .ok (.getfield 54, 3) := dk_180 0 54 (dk_at dksX6_justFor_1 3 rfl rfl)
theorem dX6_justFor_28 : decode cX6_justFor 28 = .ok (.iload_n 2, 1) := dk_28 (dk_at dksX6_justFor_1 6 rfl rfl)
theorem dX6_justFor_29 : decode cX6_justFor 29 = .ok (.aaload, 1) := dk_50 (dk_at dksX6_justFor_1 7 rfl rfl)
theorem dX6_justFor_30 : decode cX6_justFor 30 = .ok (.iload_n 1, 1) := dk_27 (dk_at dksX6_justFor_1 8 rfl rfl)
theorem dX6_justFor_31 : decode cX6_justFor 31 = .ok (.invokevirtual 91, 3) := dk_182 0 91 (dk_at dksX6_justFor_1 9 rfl rfl)
theorem dX6_justFor_34 : decode cX6_justFor 34 = .ok (.ifCond .eq 5, 3) := dk_153 0 5 (dk_at dksX6_justFor_1 12 rfl rfl)
theorem dX6_justFor_37 : decode cX6_justFor 37 = .ok (.iload_n 2, 1) := dk_28 (dk_at dksX6_justFor_1 15 rfl rfl)
theorem dX6_justFor_38 : decode cX6_justFor 38 = .ok (.ireturn, 1) := dk_172 (dk_at dksX6_justFor_1 16 rfl rfl)
theorem dX6_justFor_39 : decode cX6_justFor 39 = .ok (.iinc 2 1, 3) := dk_132 2 1 (dk_at dksX6_justFor_1 17 rfl rfl)
theorem dX6_justFor_42 : decode cX6_justFor 42 = .ok (.goto (-40), 3) := dk_167 255 216 (dk_at dksX6_justFor_1 20 rfl rfl)
theorem dX6_justFor_45 : decode cX6_justFor 45 = .ok (.iconst (-1), 1) := dk_2 (dk_at dksX6_justFor_1 23 rfl rfl)
theorem dX6_justFor_46 : decode cX6_justFor 46 = .ok (.ireturn, 1) := dk_172 (dk_at dksX6_justFor_2 0 rfl rfl)
abbrev cX6_told : ByteArray := prog_12_method_19_code
def yX6_told : MethodName := ⟨RX6, "told", "()LRaisedPress$Writing;"⟩
def dkwX6_told_11 : List UInt8 := [176]
abbrev dktX6_told_11 : List UInt8 := dkwX6_told_11 ++ []
def dkwX6_told_10 : List UInt8 := [42, 180, 0, 106, 181, 0, 215, 44, 42, 180, 0, 185, 181, 0, 216, 44, 42, 180, 0, 109, 181, 0, 217, 44]
abbrev dktX6_told_10 : List UInt8 := dkwX6_told_10 ++ dktX6_told_11
def dkwX6_told_9 : List UInt8 := [4, 96, 182, 0, 202, 181, 0, 213, 42, 180, 0, 34, 3, 44, 180, 0, 214, 3, 16, 24, 184, 0, 188, 44]
abbrev dktX6_told_9 : List UInt8 := dkwX6_told_9 ++ dktX6_told_10
def dkwX6_told_8 : List UInt8 := [42, 180, 0, 37, 42, 180, 0, 163, 182, 0, 202, 181, 0, 212, 44, 42, 42, 180, 0, 40, 42, 180, 0, 166]
abbrev dktX6_told_8 : List UInt8 := dkwX6_told_8 ++ dktX6_told_9
def dkwX6_told_7 : List UInt8 := [182, 0, 202, 181, 0, 210, 44, 42, 42, 180, 0, 31, 42, 180, 0, 101, 182, 0, 202, 181, 0, 211, 44, 42]
abbrev dktX6_told_7 : List UInt8 := dkwX6_told_7 ++ dktX6_told_8
def dkwX6_told_6 : List UInt8 := [180, 0, 25, 42, 180, 0, 151, 182, 0, 202, 181, 0, 209, 44, 42, 42, 180, 0, 28, 42, 180, 0, 151]
abbrev dktX6_told_6 : List UInt8 := dkwX6_told_6 ++ dktX6_told_7
def dkwX6_told_5 : List UInt8 := [181, 0, 207, 44, 42, 42, 180, 0, 22, 42, 180, 0, 151, 182, 0, 202, 181, 0, 208, 44, 42, 42]
abbrev dktX6_told_5 : List UInt8 := dkwX6_told_5 ++ dktX6_told_6
def dkwX6_told_4 : List UInt8 := [180, 0, 101, 182, 0, 202, 181, 0, 206, 44, 42, 42, 180, 0, 19, 42, 180, 0, 151, 182, 0, 202]
abbrev dktX6_told_4 : List UInt8 := dkwX6_told_4 ++ dktX6_told_5
def dkwX6_told_3 : List UInt8 := [180, 0, 112, 184, 0, 188, 187, 0, 197, 89, 43, 183, 0, 199, 77, 44, 42, 42, 180, 0, 15, 42]
abbrev dktX6_told_3 : List UInt8 := dkwX6_told_3 ++ dktX6_told_4
def dkwX6_told_2 : List UInt8 := [158, 0, 7, 42, 182, 0, 176, 42, 180, 0, 112, 188, 8, 76, 42, 180, 0, 74, 3, 43, 3, 42]
abbrev dktX6_told_2 : List UInt8 := dkwX6_told_2 ++ dktX6_told_3
def dkwX6_told_1 : List UInt8 := [27, 42, 180, 0, 151, 162, 0, 14, 42, 27, 182, 0, 194, 132, 1, 1, 167, 255, 240, 42, 182, 0, 169]
abbrev dktX6_told_1 : List UInt8 := dkwX6_told_1 ++ dktX6_told_2
def dkwX6_told_0 : List UInt8 := [42, 3, 181, 0, 163, 42, 3, 181, 0, 166, 42, 3, 181, 0, 185, 42, 180, 0, 40, 3, 3, 79, 3, 60]
abbrev dktX6_told_0 : List UInt8 := dkwX6_told_0 ++ dktX6_told_1
theorem dksX6_told_0 : cX6_told.data.toList.drop 0 = dktX6_told_0 := by decide +kernel
theorem dksX6_told_1 : cX6_told.data.toList.drop 24 = dktX6_told_1 := dk_seg dksX6_told_0 24 rfl rfl
theorem dksX6_told_2 : cX6_told.data.toList.drop 47 = dktX6_told_2 := dk_seg dksX6_told_1 23 rfl rfl
theorem dksX6_told_3 : cX6_told.data.toList.drop 69 = dktX6_told_3 := dk_seg dksX6_told_2 22 rfl rfl
theorem dksX6_told_4 : cX6_told.data.toList.drop 91 = dktX6_told_4 := dk_seg dksX6_told_3 22 rfl rfl
theorem dksX6_told_5 : cX6_told.data.toList.drop 113 = dktX6_told_5 := dk_seg dksX6_told_4 22 rfl rfl
theorem dksX6_told_6 : cX6_told.data.toList.drop 135 = dktX6_told_6 := dk_seg dksX6_told_5 22 rfl rfl
theorem dksX6_told_7 : cX6_told.data.toList.drop 158 = dktX6_told_7 := dk_seg dksX6_told_6 23 rfl rfl
theorem dksX6_told_8 : cX6_told.data.toList.drop 182 = dktX6_told_8 := dk_seg dksX6_told_7 24 rfl rfl
theorem dksX6_told_9 : cX6_told.data.toList.drop 206 = dktX6_told_9 := dk_seg dksX6_told_8 24 rfl rfl
theorem dksX6_told_10 : cX6_told.data.toList.drop 230 = dktX6_told_10 := dk_seg dksX6_told_9 24 rfl rfl
theorem dksX6_told_11 : cX6_told.data.toList.drop 254 = dktX6_told_11 := dk_seg dksX6_told_10 24 rfl rfl
theorem dX6_told_0 : decode cX6_told 0 = .ok (.aload_n 0, 1) := dk_42 (dk_at dksX6_told_0 0 rfl rfl)
theorem dX6_told_1 : decode cX6_told 1 = .ok (.iconst 0, 1) := dk_3 (dk_at dksX6_told_0 1 rfl rfl)
theorem dX6_told_2 : decode cX6_told 2 = .ok (.putfield 163, 3) := dk_181 0 163 (dk_at dksX6_told_0 2 rfl rfl)
theorem dX6_told_5 : decode cX6_told 5 = .ok (.aload_n 0, 1) := dk_42 (dk_at dksX6_told_0 5 rfl rfl)
theorem dX6_told_6 : decode cX6_told 6 = .ok (.iconst 0, 1) := dk_3 (dk_at dksX6_told_0 6 rfl rfl)
theorem dX6_told_7 : decode cX6_told 7 = .ok (.putfield 166, 3) := dk_181 0 166 (dk_at dksX6_told_0 7 rfl rfl)
theorem dX6_told_10 : decode cX6_told 10 = .ok (.aload_n 0, 1) := dk_42 (dk_at dksX6_told_0 10 rfl rfl)
theorem dX6_told_11 : decode cX6_told 11 = .ok (.iconst 0, 1) := dk_3 (dk_at dksX6_told_0 11 rfl rfl)
theorem dX6_told_12 : decode cX6_told 12 = .ok (.putfield 185, 3) := dk_181 0 185 (dk_at dksX6_told_0 12 rfl rfl)
theorem dX6_told_15 : decode cX6_told 15 = .ok (.aload_n 0, 1) := dk_42 (dk_at dksX6_told_0 15 rfl rfl)
theorem dX6_told_16 : decode cX6_told 16 = .ok (.getfield 40, 3) := dk_180 0 40 (dk_at dksX6_told_0 16 rfl rfl)
theorem dX6_told_19 : decode cX6_told 19 = .ok (.iconst 0, 1) := dk_3 (dk_at dksX6_told_0 19 rfl rfl)
theorem dX6_told_20 : decode cX6_told 20 = .ok (.iconst 0, 1) := dk_3 (dk_at dksX6_told_0 20 rfl rfl)
theorem dX6_told_21 : decode cX6_told 21 = .ok (.iastore, 1) := dk_79 (dk_at dksX6_told_0 21 rfl rfl)
theorem dX6_told_22 : decode cX6_told 22 = .ok (.iconst 0, 1) := dk_3 (dk_at dksX6_told_0 22 rfl rfl)
theorem dX6_told_23 : decode cX6_told 23 = .ok (.istore_n 1, 1) := dk_60 (dk_at dksX6_told_0 23 rfl rfl)
theorem dX6_told_24 : decode cX6_told 24 = .ok (.iload_n 1, 1) := dk_27 (dk_at dksX6_told_1 0 rfl rfl)
theorem dX6_told_25 : decode cX6_told 25 = .ok (.aload_n 0, 1) := dk_42 (dk_at dksX6_told_1 1 rfl rfl)
theorem dX6_told_26 : decode cX6_told 26 = .ok (.getfield 151, 3) := dk_180 0 151 (dk_at dksX6_told_1 2 rfl rfl)
theorem dX6_told_29 : decode cX6_told 29 = .ok (.if_icmp .ge 14, 3) := dk_162 0 14 (dk_at dksX6_told_1 5 rfl rfl)
theorem dX6_told_32 : decode cX6_told 32 = .ok (.aload_n 0, 1) := dk_42 (dk_at dksX6_told_1 8 rfl rfl)
theorem dX6_told_33 : decode cX6_told 33 = .ok (.iload_n 1, 1) := dk_27 (dk_at dksX6_told_1 9 rfl rfl)
theorem dX6_told_34 : decode cX6_told 34 = .ok (.invokevirtual 194, 3) := dk_182 0 194 (dk_at dksX6_told_1 10 rfl rfl)
theorem dX6_told_37 : decode cX6_told 37 = .ok (.iinc 1 1, 3) := dk_132 1 1 (dk_at dksX6_told_1 13 rfl rfl)
theorem dX6_told_40 : decode cX6_told 40 = .ok (.goto (-16), 3) := dk_167 255 240 (dk_at dksX6_told_1 16 rfl rfl)
theorem dX6_told_43 : decode cX6_told 43 = .ok (.aload_n 0, 1) := dk_42 (dk_at dksX6_told_1 19 rfl rfl)
theorem dX6_told_44 : decode cX6_told 44 = .ok (.invokevirtual 169, 3) := dk_182 0 169 (dk_at dksX6_told_1 20 rfl rfl)
theorem dX6_told_47 : decode cX6_told 47 = .ok (.ifCond .le 7, 3) := dk_158 0 7 (dk_at dksX6_told_2 0 rfl rfl)
theorem dX6_told_50 : decode cX6_told 50 = .ok (.aload_n 0, 1) := dk_42 (dk_at dksX6_told_2 3 rfl rfl)
theorem dX6_told_51 : decode cX6_told 51 = .ok (.invokevirtual 176, 3) := dk_182 0 176 (dk_at dksX6_told_2 4 rfl rfl)
theorem dX6_told_54 : decode cX6_told 54 = .ok (.aload_n 0, 1) := dk_42 (dk_at dksX6_told_2 7 rfl rfl)
theorem dX6_told_55 : decode cX6_told 55 = .ok (.getfield 112, 3) := dk_180 0 112 (dk_at dksX6_told_2 8 rfl rfl)
theorem dX6_told_58 : decode cX6_told 58 = .ok (.newarray .byte, 2) := dk_188_8 (dk_at dksX6_told_2 11 rfl rfl)
theorem dX6_told_60 : decode cX6_told 60 = .ok (.astore_n 1, 1) := dk_76 (dk_at dksX6_told_2 13 rfl rfl)
theorem dX6_told_61 : decode cX6_told 61 = .ok (.aload_n 0, 1) := dk_42 (dk_at dksX6_told_2 14 rfl rfl)
theorem dX6_told_62 : decode cX6_told 62 = .ok (.getfield 74, 3) := dk_180 0 74 (dk_at dksX6_told_2 15 rfl rfl)
theorem dX6_told_65 : decode cX6_told 65 = .ok (.iconst 0, 1) := dk_3 (dk_at dksX6_told_2 18 rfl rfl)
theorem dX6_told_66 : decode cX6_told 66 = .ok (.aload_n 1, 1) := dk_43 (dk_at dksX6_told_2 19 rfl rfl)
theorem dX6_told_67 : decode cX6_told 67 = .ok (.iconst 0, 1) := dk_3 (dk_at dksX6_told_2 20 rfl rfl)
theorem dX6_told_68 : decode cX6_told 68 = .ok (.aload_n 0, 1) := dk_42 (dk_at dksX6_told_2 21 rfl rfl)
theorem dX6_told_69 : decode cX6_told 69 = .ok (.getfield 112, 3) := dk_180 0 112 (dk_at dksX6_told_3 0 rfl rfl)
theorem dX6_told_72 : decode cX6_told 72 = .ok (.invokestatic 188, 3) := dk_184 0 188 (dk_at dksX6_told_3 3 rfl rfl)
theorem dX6_told_75 : decode cX6_told 75 = .ok (.new 197, 3) := dk_187 0 197 (dk_at dksX6_told_3 6 rfl rfl)
theorem dX6_told_78 : decode cX6_told 78 = .ok (.dup, 1) := dk_89 (dk_at dksX6_told_3 9 rfl rfl)
theorem dX6_told_79 : decode cX6_told 79 = .ok (.aload_n 1, 1) := dk_43 (dk_at dksX6_told_3 10 rfl rfl)
theorem dX6_told_80 : decode cX6_told 80 = .ok (.invokespecial 199, 3) := dk_183 0 199 (dk_at dksX6_told_3 11 rfl rfl)
theorem dX6_told_83 : decode cX6_told 83 = .ok (.astore_n 2, 1) := dk_77 (dk_at dksX6_told_3 14 rfl rfl)
theorem dX6_told_84 : decode cX6_told 84 = .ok (.aload_n 2, 1) := dk_44 (dk_at dksX6_told_3 15 rfl rfl)
theorem dX6_told_85 : decode cX6_told 85 = .ok (.aload_n 0, 1) := dk_42 (dk_at dksX6_told_3 16 rfl rfl)
theorem dX6_told_86 : decode cX6_told 86 = .ok (.aload_n 0, 1) := dk_42 (dk_at dksX6_told_3 17 rfl rfl)
theorem dX6_told_87 : decode cX6_told 87 = .ok (.getfield 15, 3) := dk_180 0 15 (dk_at dksX6_told_3 18 rfl rfl)
theorem dX6_told_90 : decode cX6_told 90 = .ok (.aload_n 0, 1) := dk_42 (dk_at dksX6_told_3 21 rfl rfl)
theorem dX6_told_91 : decode cX6_told 91 = .ok (.getfield 101, 3) := dk_180 0 101 (dk_at dksX6_told_4 0 rfl rfl)
theorem dX6_told_94 : decode cX6_told 94 = .ok (.invokevirtual 202, 3) := dk_182 0 202 (dk_at dksX6_told_4 3 rfl rfl)
theorem dX6_told_97 : decode cX6_told 97 = .ok (.putfield 206, 3) := dk_181 0 206 (dk_at dksX6_told_4 6 rfl rfl)
theorem dX6_told_100 : decode cX6_told 100 = .ok (.aload_n 2, 1) := dk_44 (dk_at dksX6_told_4 9 rfl rfl)
theorem dX6_told_101 : decode cX6_told 101 = .ok (.aload_n 0, 1) := dk_42 (dk_at dksX6_told_4 10 rfl rfl)
theorem dX6_told_102 : decode cX6_told 102 = .ok (.aload_n 0, 1) := dk_42 (dk_at dksX6_told_4 11 rfl rfl)
theorem dX6_told_103 : decode cX6_told 103 = .ok (.getfield 19, 3) := dk_180 0 19 (dk_at dksX6_told_4 12 rfl rfl)
theorem dX6_told_106 : decode cX6_told 106 = .ok (.aload_n 0, 1) := dk_42 (dk_at dksX6_told_4 15 rfl rfl)
theorem dX6_told_107 : decode cX6_told 107 = .ok (.getfield 151, 3) := dk_180 0 151 (dk_at dksX6_told_4 16 rfl rfl)
theorem dX6_told_110 : decode cX6_told 110 = .ok (.invokevirtual 202, 3) := dk_182 0 202 (dk_at dksX6_told_4 19 rfl rfl)
theorem dX6_told_113 : decode cX6_told 113 = .ok (.putfield 207, 3) := dk_181 0 207 (dk_at dksX6_told_5 0 rfl rfl)
theorem dX6_told_116 : decode cX6_told 116 = .ok (.aload_n 2, 1) := dk_44 (dk_at dksX6_told_5 3 rfl rfl)
theorem dX6_told_117 : decode cX6_told 117 = .ok (.aload_n 0, 1) := dk_42 (dk_at dksX6_told_5 4 rfl rfl)
theorem dX6_told_118 : decode cX6_told 118 = .ok (.aload_n 0, 1) := dk_42 (dk_at dksX6_told_5 5 rfl rfl)
theorem dX6_told_119 : decode cX6_told 119 = .ok (.getfield 22, 3) := dk_180 0 22 (dk_at dksX6_told_5 6 rfl rfl)
theorem dX6_told_122 : decode cX6_told 122 = .ok (.aload_n 0, 1) := dk_42 (dk_at dksX6_told_5 9 rfl rfl)
theorem dX6_told_123 : decode cX6_told 123 = .ok (.getfield 151, 3) := dk_180 0 151 (dk_at dksX6_told_5 10 rfl rfl)
theorem dX6_told_126 : decode cX6_told 126 = .ok (.invokevirtual 202, 3) := dk_182 0 202 (dk_at dksX6_told_5 13 rfl rfl)
theorem dX6_told_129 : decode cX6_told 129 = .ok (.putfield 208, 3) := dk_181 0 208 (dk_at dksX6_told_5 16 rfl rfl)
theorem dX6_told_132 : decode cX6_told 132 = .ok (.aload_n 2, 1) := dk_44 (dk_at dksX6_told_5 19 rfl rfl)
theorem dX6_told_133 : decode cX6_told 133 = .ok (.aload_n 0, 1) := dk_42 (dk_at dksX6_told_5 20 rfl rfl)
theorem dX6_told_134 : decode cX6_told 134 = .ok (.aload_n 0, 1) := dk_42 (dk_at dksX6_told_5 21 rfl rfl)
theorem dX6_told_135 : decode cX6_told 135 = .ok (.getfield 25, 3) := dk_180 0 25 (dk_at dksX6_told_6 0 rfl rfl)
theorem dX6_told_138 : decode cX6_told 138 = .ok (.aload_n 0, 1) := dk_42 (dk_at dksX6_told_6 3 rfl rfl)
theorem dX6_told_139 : decode cX6_told 139 = .ok (.getfield 151, 3) := dk_180 0 151 (dk_at dksX6_told_6 4 rfl rfl)
theorem dX6_told_142 : decode cX6_told 142 = .ok (.invokevirtual 202, 3) := dk_182 0 202 (dk_at dksX6_told_6 7 rfl rfl)
theorem dX6_told_145 : decode cX6_told 145 = .ok (.putfield 209, 3) := dk_181 0 209 (dk_at dksX6_told_6 10 rfl rfl)
theorem dX6_told_148 : decode cX6_told 148 = .ok (.aload_n 2, 1) := dk_44 (dk_at dksX6_told_6 13 rfl rfl)
theorem dX6_told_149 : decode cX6_told 149 = .ok (.aload_n 0, 1) := dk_42 (dk_at dksX6_told_6 14 rfl rfl)
theorem dX6_told_150 : decode cX6_told 150 = .ok (.aload_n 0, 1) := dk_42 (dk_at dksX6_told_6 15 rfl rfl)
theorem dX6_told_151 : decode cX6_told 151 = .ok (.getfield 28, 3) := dk_180 0 28 (dk_at dksX6_told_6 16 rfl rfl)
theorem dX6_told_154 : decode cX6_told 154 = .ok (.aload_n 0, 1) := dk_42 (dk_at dksX6_told_6 19 rfl rfl)
theorem dX6_told_155 : decode cX6_told 155 = .ok (.getfield 151, 3) := dk_180 0 151 (dk_at dksX6_told_6 20 rfl rfl)
theorem dX6_told_158 : decode cX6_told 158 = .ok (.invokevirtual 202, 3) := dk_182 0 202 (dk_at dksX6_told_7 0 rfl rfl)
theorem dX6_told_161 : decode cX6_told 161 = .ok (.putfield 210, 3) := dk_181 0 210 (dk_at dksX6_told_7 3 rfl rfl)
theorem dX6_told_164 : decode cX6_told 164 = .ok (.aload_n 2, 1) := dk_44 (dk_at dksX6_told_7 6 rfl rfl)
theorem dX6_told_165 : decode cX6_told 165 = .ok (.aload_n 0, 1) := dk_42 (dk_at dksX6_told_7 7 rfl rfl)
theorem dX6_told_166 : decode cX6_told 166 = .ok (.aload_n 0, 1) := dk_42 (dk_at dksX6_told_7 8 rfl rfl)
theorem dX6_told_167 : decode cX6_told 167 = .ok (.getfield 31, 3) := dk_180 0 31 (dk_at dksX6_told_7 9 rfl rfl)
theorem dX6_told_170 : decode cX6_told 170 = .ok (.aload_n 0, 1) := dk_42 (dk_at dksX6_told_7 12 rfl rfl)
theorem dX6_told_171 : decode cX6_told 171 = .ok (.getfield 101, 3) := dk_180 0 101 (dk_at dksX6_told_7 13 rfl rfl)
theorem dX6_told_174 : decode cX6_told 174 = .ok (.invokevirtual 202, 3) := dk_182 0 202 (dk_at dksX6_told_7 16 rfl rfl)
theorem dX6_told_177 : decode cX6_told 177 = .ok (.putfield 211, 3) := dk_181 0 211 (dk_at dksX6_told_7 19 rfl rfl)
theorem dX6_told_180 : decode cX6_told 180 = .ok (.aload_n 2, 1) := dk_44 (dk_at dksX6_told_7 22 rfl rfl)
theorem dX6_told_181 : decode cX6_told 181 = .ok (.aload_n 0, 1) := dk_42 (dk_at dksX6_told_7 23 rfl rfl)
theorem dX6_told_182 : decode cX6_told 182 = .ok (.aload_n 0, 1) := dk_42 (dk_at dksX6_told_8 0 rfl rfl)
theorem dX6_told_183 : decode cX6_told 183 = .ok (.getfield 37, 3) := dk_180 0 37 (dk_at dksX6_told_8 1 rfl rfl)
theorem dX6_told_186 : decode cX6_told 186 = .ok (.aload_n 0, 1) := dk_42 (dk_at dksX6_told_8 4 rfl rfl)
theorem dX6_told_187 : decode cX6_told 187 = .ok (.getfield 163, 3) := dk_180 0 163 (dk_at dksX6_told_8 5 rfl rfl)
theorem dX6_told_190 : decode cX6_told 190 = .ok (.invokevirtual 202, 3) := dk_182 0 202 (dk_at dksX6_told_8 8 rfl rfl)
theorem dX6_told_193 : decode cX6_told 193 = .ok (.putfield 212, 3) := dk_181 0 212 (dk_at dksX6_told_8 11 rfl rfl)
theorem dX6_told_196 : decode cX6_told 196 = .ok (.aload_n 2, 1) := dk_44 (dk_at dksX6_told_8 14 rfl rfl)
theorem dX6_told_197 : decode cX6_told 197 = .ok (.aload_n 0, 1) := dk_42 (dk_at dksX6_told_8 15 rfl rfl)
theorem dX6_told_198 : decode cX6_told 198 = .ok (.aload_n 0, 1) := dk_42 (dk_at dksX6_told_8 16 rfl rfl)
theorem dX6_told_199 : decode cX6_told 199 = .ok (.getfield 40, 3) := dk_180 0 40 (dk_at dksX6_told_8 17 rfl rfl)
theorem dX6_told_202 : decode cX6_told 202 = .ok (.aload_n 0, 1) := dk_42 (dk_at dksX6_told_8 20 rfl rfl)
theorem dX6_told_203 : decode cX6_told 203 = .ok (.getfield 166, 3) := dk_180 0 166 (dk_at dksX6_told_8 21 rfl rfl)
theorem dX6_told_206 : decode cX6_told 206 = .ok (.iconst 1, 1) := dk_4 (dk_at dksX6_told_9 0 rfl rfl)
theorem dX6_told_207 : decode cX6_told 207 = .ok (.iadd, 1) := dk_96 (dk_at dksX6_told_9 1 rfl rfl)
theorem dX6_told_208 : decode cX6_told 208 = .ok (.invokevirtual 202, 3) := dk_182 0 202 (dk_at dksX6_told_9 2 rfl rfl)
theorem dX6_told_211 : decode cX6_told 211 = .ok (.putfield 213, 3) := dk_181 0 213 (dk_at dksX6_told_9 5 rfl rfl)
theorem dX6_told_214 : decode cX6_told 214 = .ok (.aload_n 0, 1) := dk_42 (dk_at dksX6_told_9 8 rfl rfl)
theorem dX6_told_215 : decode cX6_told 215 = .ok (.getfield 34, 3) := dk_180 0 34 (dk_at dksX6_told_9 9 rfl rfl)
theorem dX6_told_218 : decode cX6_told 218 = .ok (.iconst 0, 1) := dk_3 (dk_at dksX6_told_9 12 rfl rfl)
theorem dX6_told_219 : decode cX6_told 219 = .ok (.aload_n 2, 1) := dk_44 (dk_at dksX6_told_9 13 rfl rfl)
theorem dX6_told_220 : decode cX6_told 220 = .ok (.getfield 214, 3) := dk_180 0 214 (dk_at dksX6_told_9 14 rfl rfl)
theorem dX6_told_223 : decode cX6_told 223 = .ok (.iconst 0, 1) := dk_3 (dk_at dksX6_told_9 17 rfl rfl)
theorem dX6_told_224 : decode cX6_told 224 = .ok (.bipush 24, 2) := dk_16 24 (dk_at dksX6_told_9 18 rfl rfl)
theorem dX6_told_226 : decode cX6_told 226 = .ok (.invokestatic 188, 3) := dk_184 0 188 (dk_at dksX6_told_9 20 rfl rfl)
theorem dX6_told_229 : decode cX6_told 229 = .ok (.aload_n 2, 1) := dk_44 (dk_at dksX6_told_9 23 rfl rfl)
theorem dX6_told_230 : decode cX6_told 230 = .ok (.aload_n 0, 1) := dk_42 (dk_at dksX6_told_10 0 rfl rfl)
theorem dX6_told_231 : decode cX6_told 231 = .ok (.getfield 106, 3) := dk_180 0 106 (dk_at dksX6_told_10 1 rfl rfl)
theorem dX6_told_234 : decode cX6_told 234 = .ok (.putfield 215, 3) := dk_181 0 215 (dk_at dksX6_told_10 4 rfl rfl)
theorem dX6_told_237 : decode cX6_told 237 = .ok (.aload_n 2, 1) := dk_44 (dk_at dksX6_told_10 7 rfl rfl)
theorem dX6_told_238 : decode cX6_told 238 = .ok (.aload_n 0, 1) := dk_42 (dk_at dksX6_told_10 8 rfl rfl)
theorem dX6_told_239 : decode cX6_told 239 = .ok (.getfield 185, 3) := dk_180 0 185 (dk_at dksX6_told_10 9 rfl rfl)
theorem dX6_told_242 : decode cX6_told 242 = .ok (.putfield 216, 3) := dk_181 0 216 (dk_at dksX6_told_10 12 rfl rfl)
theorem dX6_told_245 : decode cX6_told 245 = .ok (.aload_n 2, 1) := dk_44 (dk_at dksX6_told_10 15 rfl rfl)
theorem dX6_told_246 : decode cX6_told 246 = .ok (.aload_n 0, 1) := dk_42 (dk_at dksX6_told_10 16 rfl rfl)
theorem dX6_told_247 : decode cX6_told 247 = .ok (.getfield 109, 3) := dk_180 0 109 (dk_at dksX6_told_10 17 rfl rfl)
theorem dX6_told_250 : decode cX6_told 250 = .ok (.putfield 217, 3) := dk_181 0 217 (dk_at dksX6_told_10 20 rfl rfl)
theorem dX6_told_253 : decode cX6_told 253 = .ok (.aload_n 2, 1) := dk_44 (dk_at dksX6_told_10 23 rfl rfl)
theorem dX6_told_254 : decode cX6_told 254 = .ok (.areturn, 1) := dk_176 (dk_at dksX6_told_11 0 rfl rfl)
abbrev cX6_piece : ByteArray := prog_12_method_17_code
def yX6_piece : MethodName := ⟨RX6, "piece", "(I)V"⟩
def dkwX6_piece_9 : List UInt8 := [182, 0, 179, 132, 4, 1, 167, 255, 234, 42, 180, 0, 28, 27, 42, 180, 0, 166, 79, 177]
abbrev dktX6_piece_9 : List UInt8 := dkwX6_piece_9 ++ []
def dkwX6_piece_8 : List UInt8 := [167, 255, 140, 3, 54, 4, 21, 4, 29, 162, 0, 22, 42, 42, 180, 0, 15, 28, 21, 4, 96, 46]
abbrev dktX6_piece_8 : List UInt8 := dkwX6_piece_8 ++ dktX6_piece_9
def dkwX6_piece_7 : List UInt8 := [180, 0, 185, 4, 96, 181, 0, 185, 28, 21, 4, 96, 61, 29, 21, 4, 100, 62, 42, 182, 0, 176]
abbrev dktX6_piece_7 : List UInt8 := dkwX6_piece_7 ++ dktX6_piece_8
def dkwX6_piece_6 : List UInt8 := [180, 0, 46, 180, 0, 182, 155, 0, 24, 42, 42, 180, 0, 46, 180, 0, 182, 182, 0, 179, 42, 89]
abbrev dktX6_piece_6 : List UInt8 := dkwX6_piece_6 ++ dktX6_piece_7
def dkwX6_piece_5 : List UInt8 := [162, 0, 22, 42, 42, 180, 0, 15, 28, 21, 5, 96, 46, 182, 0, 179, 132, 5, 1, 167, 255, 233, 42]
abbrev dktX6_piece_5 : List UInt8 := dkwX6_piece_5 ++ dktX6_piece_6
def dkwX6_piece_4 : List UInt8 := [180, 0, 173, 167, 0, 12, 42, 180, 0, 46, 180, 0, 173, 4, 100, 54, 4, 3, 54, 5, 21, 5, 21, 4]
abbrev dktX6_piece_4 : List UInt8 := dkwX6_piece_4 ++ dktX6_piece_5
def dkwX6_piece_3 : List UInt8 := [180, 0, 46, 180, 0, 173, 164, 0, 111, 42, 180, 0, 46, 180, 0, 182, 156, 0, 13, 42, 180, 0, 46]
abbrev dktX6_piece_3 : List UInt8 := dkwX6_piece_3 ++ dktX6_piece_4
def dkwX6_piece_2 : List UInt8 := [42, 182, 0, 169, 158, 0, 8, 42, 3, 182, 0, 179, 42, 180, 0, 25, 27, 42, 180, 0, 166, 79, 29, 42]
abbrev dktX6_piece_2 : List UInt8 := dkwX6_piece_2 ++ dktX6_piece_3
def dkwX6_piece_1 : List UInt8 := [182, 0, 169, 4, 96, 29, 96, 42, 180, 0, 46, 180, 0, 173, 164, 0, 10, 42, 182, 0, 176, 167, 0, 15]
abbrev dktX6_piece_1 : List UInt8 := dkwX6_piece_1 ++ dktX6_piece_2
def dkwX6_piece_0 : List UInt8 := [42, 180, 0, 19, 27, 46, 61, 42, 180, 0, 22, 27, 46, 62, 42, 182, 0, 169, 158, 0, 28, 42]
abbrev dktX6_piece_0 : List UInt8 := dkwX6_piece_0 ++ dktX6_piece_1
theorem dksX6_piece_0 : cX6_piece.data.toList.drop 0 = dktX6_piece_0 := by decide +kernel
theorem dksX6_piece_1 : cX6_piece.data.toList.drop 22 = dktX6_piece_1 := dk_seg dksX6_piece_0 22 rfl rfl
theorem dksX6_piece_2 : cX6_piece.data.toList.drop 46 = dktX6_piece_2 := dk_seg dksX6_piece_1 24 rfl rfl
theorem dksX6_piece_3 : cX6_piece.data.toList.drop 70 = dktX6_piece_3 := dk_seg dksX6_piece_2 24 rfl rfl
theorem dksX6_piece_4 : cX6_piece.data.toList.drop 93 = dktX6_piece_4 := dk_seg dksX6_piece_3 23 rfl rfl
theorem dksX6_piece_5 : cX6_piece.data.toList.drop 117 = dktX6_piece_5 := dk_seg dksX6_piece_4 24 rfl rfl
theorem dksX6_piece_6 : cX6_piece.data.toList.drop 140 = dktX6_piece_6 := dk_seg dksX6_piece_5 23 rfl rfl
theorem dksX6_piece_7 : cX6_piece.data.toList.drop 162 = dktX6_piece_7 := dk_seg dksX6_piece_6 22 rfl rfl
theorem dksX6_piece_8 : cX6_piece.data.toList.drop 184 = dktX6_piece_8 := dk_seg dksX6_piece_7 22 rfl rfl
theorem dksX6_piece_9 : cX6_piece.data.toList.drop 206 = dktX6_piece_9 := dk_seg dksX6_piece_8 22 rfl rfl
theorem dX6_piece_0 : decode cX6_piece 0 = .ok (.aload_n 0, 1) := dk_42 (dk_at dksX6_piece_0 0 rfl rfl)
theorem dX6_piece_1 : decode cX6_piece 1 = .ok (.getfield 19, 3) := dk_180 0 19 (dk_at dksX6_piece_0 1 rfl rfl)
theorem dX6_piece_4 : decode cX6_piece 4 = .ok (.iload_n 1, 1) := dk_27 (dk_at dksX6_piece_0 4 rfl rfl)
theorem dX6_piece_5 : decode cX6_piece 5 = .ok (.iaload, 1) := dk_46 (dk_at dksX6_piece_0 5 rfl rfl)
theorem dX6_piece_6 : decode cX6_piece 6 = .ok (.istore_n 2, 1) := dk_61 (dk_at dksX6_piece_0 6 rfl rfl)
theorem dX6_piece_7 : decode cX6_piece 7 = .ok (.aload_n 0, 1) := dk_42 (dk_at dksX6_piece_0 7 rfl rfl)
theorem dX6_piece_8 : decode cX6_piece 8 = .ok (.getfield 22, 3) := dk_180 0 22 (dk_at dksX6_piece_0 8 rfl rfl)
theorem dX6_piece_11 : decode cX6_piece 11 = .ok (.iload_n 1, 1) := dk_27 (dk_at dksX6_piece_0 11 rfl rfl)
theorem dX6_piece_12 : decode cX6_piece 12 = .ok (.iaload, 1) := dk_46 (dk_at dksX6_piece_0 12 rfl rfl)
theorem dX6_piece_13 : decode cX6_piece 13 = .ok (.istore_n 3, 1) := dk_62 (dk_at dksX6_piece_0 13 rfl rfl)
theorem dX6_piece_14 : decode cX6_piece 14 = .ok (.aload_n 0, 1) := dk_42 (dk_at dksX6_piece_0 14 rfl rfl)
theorem dX6_piece_15 : decode cX6_piece 15 = .ok (.invokevirtual 169, 3) := dk_182 0 169 (dk_at dksX6_piece_0 15 rfl rfl)
theorem dX6_piece_18 : decode cX6_piece 18 = .ok (.ifCond .le 28, 3) := dk_158 0 28 (dk_at dksX6_piece_0 18 rfl rfl)
theorem dX6_piece_21 : decode cX6_piece 21 = .ok (.aload_n 0, 1) := dk_42 (dk_at dksX6_piece_0 21 rfl rfl)
theorem dX6_piece_22 : decode cX6_piece 22 = .ok (.invokevirtual 169, 3) := dk_182 0 169 (dk_at dksX6_piece_1 0 rfl rfl)
theorem dX6_piece_25 : decode cX6_piece 25 = .ok (.iconst 1, 1) := dk_4 (dk_at dksX6_piece_1 3 rfl rfl)
theorem dX6_piece_26 : decode cX6_piece 26 = .ok (.iadd, 1) := dk_96 (dk_at dksX6_piece_1 4 rfl rfl)
theorem dX6_piece_27 : decode cX6_piece 27 = .ok (.iload_n 3, 1) := dk_29 (dk_at dksX6_piece_1 5 rfl rfl)
theorem dX6_piece_28 : decode cX6_piece 28 = .ok (.iadd, 1) := dk_96 (dk_at dksX6_piece_1 6 rfl rfl)
theorem dX6_piece_29 : decode cX6_piece 29 = .ok (.aload_n 0, 1) := dk_42 (dk_at dksX6_piece_1 7 rfl rfl)
theorem dX6_piece_30 : decode cX6_piece 30 = .ok (.getfield 46, 3) := dk_180 0 46 (dk_at dksX6_piece_1 8 rfl rfl)
theorem dX6_piece_33 : decode cX6_piece 33 = .ok (.getfield 173, 3) := dk_180 0 173 (dk_at dksX6_piece_1 11 rfl rfl)
theorem dX6_piece_36 : decode cX6_piece 36 = .ok (.if_icmp .le 10, 3) := dk_164 0 10 (dk_at dksX6_piece_1 14 rfl rfl)
theorem dX6_piece_39 : decode cX6_piece 39 = .ok (.aload_n 0, 1) := dk_42 (dk_at dksX6_piece_1 17 rfl rfl)
theorem dX6_piece_40 : decode cX6_piece 40 = .ok (.invokevirtual 176, 3) := dk_182 0 176 (dk_at dksX6_piece_1 18 rfl rfl)
theorem dX6_piece_43 : decode cX6_piece 43 = .ok (.goto 15, 3) := dk_167 0 15 (dk_at dksX6_piece_1 21 rfl rfl)
theorem dX6_piece_46 : decode cX6_piece 46 = .ok (.aload_n 0, 1) := dk_42 (dk_at dksX6_piece_2 0 rfl rfl)
theorem dX6_piece_47 : decode cX6_piece 47 = .ok (.invokevirtual 169, 3) := dk_182 0 169 (dk_at dksX6_piece_2 1 rfl rfl)
theorem dX6_piece_50 : decode cX6_piece 50 = .ok (.ifCond .le 8, 3) := dk_158 0 8 (dk_at dksX6_piece_2 4 rfl rfl)
theorem dX6_piece_53 : decode cX6_piece 53 = .ok (.aload_n 0, 1) := dk_42 (dk_at dksX6_piece_2 7 rfl rfl)
theorem dX6_piece_54 : decode cX6_piece 54 = .ok (.iconst 0, 1) := dk_3 (dk_at dksX6_piece_2 8 rfl rfl)
theorem dX6_piece_55 : decode cX6_piece 55 = .ok (.invokevirtual 179, 3) := dk_182 0 179 (dk_at dksX6_piece_2 9 rfl rfl)
theorem dX6_piece_58 : decode cX6_piece 58 = .ok (.aload_n 0, 1) := dk_42 (dk_at dksX6_piece_2 12 rfl rfl)
theorem dX6_piece_59 : decode cX6_piece 59 = .ok (.getfield 25, 3) := dk_180 0 25 (dk_at dksX6_piece_2 13 rfl rfl)
theorem dX6_piece_62 : decode cX6_piece 62 = .ok (.iload_n 1, 1) := dk_27 (dk_at dksX6_piece_2 16 rfl rfl)
theorem dX6_piece_63 : decode cX6_piece 63 = .ok (.aload_n 0, 1) := dk_42 (dk_at dksX6_piece_2 17 rfl rfl)
theorem dX6_piece_64 : decode cX6_piece 64 = .ok (.getfield 166, 3) := dk_180 0 166 (dk_at dksX6_piece_2 18 rfl rfl)
theorem dX6_piece_67 : decode cX6_piece 67 = .ok (.iastore, 1) := dk_79 (dk_at dksX6_piece_2 21 rfl rfl)
theorem dX6_piece_68 : decode cX6_piece 68 = .ok (.iload_n 3, 1) := dk_29 (dk_at dksX6_piece_2 22 rfl rfl)
theorem dX6_piece_69 : decode cX6_piece 69 = .ok (.aload_n 0, 1) := dk_42 (dk_at dksX6_piece_2 23 rfl rfl)
theorem dX6_piece_70 : decode cX6_piece 70 = .ok (.getfield 46, 3) := dk_180 0 46 (dk_at dksX6_piece_3 0 rfl rfl)
theorem dX6_piece_73 : decode cX6_piece 73 = .ok (.getfield 173, 3) := dk_180 0 173 (dk_at dksX6_piece_3 3 rfl rfl)
theorem dX6_piece_76 : decode cX6_piece 76 = .ok (.if_icmp .le 111, 3) := dk_164 0 111 (dk_at dksX6_piece_3 6 rfl rfl)
theorem dX6_piece_79 : decode cX6_piece 79 = .ok (.aload_n 0, 1) := dk_42 (dk_at dksX6_piece_3 9 rfl rfl)
theorem dX6_piece_80 : decode cX6_piece 80 = .ok (.getfield 46, 3) := dk_180 0 46 (dk_at dksX6_piece_3 10 rfl rfl)
theorem dX6_piece_83 : decode cX6_piece 83 = .ok (.getfield 182, 3) := dk_180 0 182 (dk_at dksX6_piece_3 13 rfl rfl)
theorem dX6_piece_86 : decode cX6_piece 86 = .ok (.ifCond .ge 13, 3) := dk_156 0 13 (dk_at dksX6_piece_3 16 rfl rfl)
theorem dX6_piece_89 : decode cX6_piece 89 = .ok (.aload_n 0, 1) := dk_42 (dk_at dksX6_piece_3 19 rfl rfl)
theorem dX6_piece_90 : decode cX6_piece 90 = .ok (.getfield 46, 3) := dk_180 0 46 (dk_at dksX6_piece_3 20 rfl rfl)
theorem dX6_piece_93 : decode cX6_piece 93 = .ok (.getfield 173, 3) := dk_180 0 173 (dk_at dksX6_piece_4 0 rfl rfl)
theorem dX6_piece_96 : decode cX6_piece 96 = .ok (.goto 12, 3) := dk_167 0 12 (dk_at dksX6_piece_4 3 rfl rfl)
theorem dX6_piece_99 : decode cX6_piece 99 = .ok (.aload_n 0, 1) := dk_42 (dk_at dksX6_piece_4 6 rfl rfl)
theorem dX6_piece_100 : decode cX6_piece 100 = .ok (.getfield 46, 3) := dk_180 0 46 (dk_at dksX6_piece_4 7 rfl rfl)
theorem dX6_piece_103 : decode cX6_piece 103 = .ok (.getfield 173, 3) := dk_180 0 173 (dk_at dksX6_piece_4 10 rfl rfl)
theorem dX6_piece_106 : decode cX6_piece 106 = .ok (.iconst 1, 1) := dk_4 (dk_at dksX6_piece_4 13 rfl rfl)
theorem dX6_piece_107 : decode cX6_piece 107 = .ok (.isub, 1) := dk_100 (dk_at dksX6_piece_4 14 rfl rfl)
theorem dX6_piece_108 : decode cX6_piece 108 = .ok (.istore 4, 2) := dk_54 4 (dk_at dksX6_piece_4 15 rfl rfl)
theorem dX6_piece_110 : decode cX6_piece 110 = .ok (.iconst 0, 1) := dk_3 (dk_at dksX6_piece_4 17 rfl rfl)
theorem dX6_piece_111 : decode cX6_piece 111 = .ok (.istore 5, 2) := dk_54 5 (dk_at dksX6_piece_4 18 rfl rfl)
theorem dX6_piece_113 : decode cX6_piece 113 = .ok (.iload 5, 2) := dk_21 5 (dk_at dksX6_piece_4 20 rfl rfl)
theorem dX6_piece_115 : decode cX6_piece 115 = .ok (.iload 4, 2) := dk_21 4 (dk_at dksX6_piece_4 22 rfl rfl)
theorem dX6_piece_117 : decode cX6_piece 117 = .ok (.if_icmp .ge 22, 3) := dk_162 0 22 (dk_at dksX6_piece_5 0 rfl rfl)
theorem dX6_piece_120 : decode cX6_piece 120 = .ok (.aload_n 0, 1) := dk_42 (dk_at dksX6_piece_5 3 rfl rfl)
theorem dX6_piece_121 : decode cX6_piece 121 = .ok (.aload_n 0, 1) := dk_42 (dk_at dksX6_piece_5 4 rfl rfl)
theorem dX6_piece_122 : decode cX6_piece 122 = .ok (.getfield 15, 3) := dk_180 0 15 (dk_at dksX6_piece_5 5 rfl rfl)
theorem dX6_piece_125 : decode cX6_piece 125 = .ok (.iload_n 2, 1) := dk_28 (dk_at dksX6_piece_5 8 rfl rfl)
theorem dX6_piece_126 : decode cX6_piece 126 = .ok (.iload 5, 2) := dk_21 5 (dk_at dksX6_piece_5 9 rfl rfl)
theorem dX6_piece_128 : decode cX6_piece 128 = .ok (.iadd, 1) := dk_96 (dk_at dksX6_piece_5 11 rfl rfl)
theorem dX6_piece_129 : decode cX6_piece 129 = .ok (.iaload, 1) := dk_46 (dk_at dksX6_piece_5 12 rfl rfl)
theorem dX6_piece_130 : decode cX6_piece 130 = .ok (.invokevirtual 179, 3) := dk_182 0 179 (dk_at dksX6_piece_5 13 rfl rfl)
theorem dX6_piece_133 : decode cX6_piece 133 = .ok (.iinc 5 1, 3) := dk_132 5 1 (dk_at dksX6_piece_5 16 rfl rfl)
theorem dX6_piece_136 : decode cX6_piece 136 = .ok (.goto (-23), 3) := dk_167 255 233 (dk_at dksX6_piece_5 19 rfl rfl)
theorem dX6_piece_139 : decode cX6_piece 139 = .ok (.aload_n 0, 1) := dk_42 (dk_at dksX6_piece_5 22 rfl rfl)
theorem dX6_piece_140 : decode cX6_piece 140 = .ok (.getfield 46, 3) := dk_180 0 46 (dk_at dksX6_piece_6 0 rfl rfl)
theorem dX6_piece_143 : decode cX6_piece 143 = .ok (.getfield 182, 3) := dk_180 0 182 (dk_at dksX6_piece_6 3 rfl rfl)
theorem dX6_piece_146 : decode cX6_piece 146 = .ok (.ifCond .lt 24, 3) := dk_155 0 24 (dk_at dksX6_piece_6 6 rfl rfl)
theorem dX6_piece_149 : decode cX6_piece 149 = .ok (.aload_n 0, 1) := dk_42 (dk_at dksX6_piece_6 9 rfl rfl)
theorem dX6_piece_150 : decode cX6_piece 150 = .ok (.aload_n 0, 1) := dk_42 (dk_at dksX6_piece_6 10 rfl rfl)
theorem dX6_piece_151 : decode cX6_piece 151 = .ok (.getfield 46, 3) := dk_180 0 46 (dk_at dksX6_piece_6 11 rfl rfl)
theorem dX6_piece_154 : decode cX6_piece 154 = .ok (.getfield 182, 3) := dk_180 0 182 (dk_at dksX6_piece_6 14 rfl rfl)
theorem dX6_piece_157 : decode cX6_piece 157 = .ok (.invokevirtual 179, 3) := dk_182 0 179 (dk_at dksX6_piece_6 17 rfl rfl)
theorem dX6_piece_160 : decode cX6_piece 160 = .ok (.aload_n 0, 1) := dk_42 (dk_at dksX6_piece_6 20 rfl rfl)
theorem dX6_piece_161 : decode cX6_piece 161 = .ok (.dup, 1) := dk_89 (dk_at dksX6_piece_6 21 rfl rfl)
theorem dX6_piece_162 : decode cX6_piece 162 = .ok (.getfield 185, 3) := dk_180 0 185 (dk_at dksX6_piece_7 0 rfl rfl)
theorem dX6_piece_165 : decode cX6_piece 165 = .ok (.iconst 1, 1) := dk_4 (dk_at dksX6_piece_7 3 rfl rfl)
theorem dX6_piece_166 : decode cX6_piece 166 = .ok (.iadd, 1) := dk_96 (dk_at dksX6_piece_7 4 rfl rfl)
theorem dX6_piece_167 : decode cX6_piece 167 = .ok (.putfield 185, 3) := dk_181 0 185 (dk_at dksX6_piece_7 5 rfl rfl)
theorem dX6_piece_170 : decode cX6_piece 170 = .ok (.iload_n 2, 1) := dk_28 (dk_at dksX6_piece_7 8 rfl rfl)
theorem dX6_piece_171 : decode cX6_piece 171 = .ok (.iload 4, 2) := dk_21 4 (dk_at dksX6_piece_7 9 rfl rfl)
theorem dX6_piece_173 : decode cX6_piece 173 = .ok (.iadd, 1) := dk_96 (dk_at dksX6_piece_7 11 rfl rfl)
theorem dX6_piece_174 : decode cX6_piece 174 = .ok (.istore_n 2, 1) := dk_61 (dk_at dksX6_piece_7 12 rfl rfl)
theorem dX6_piece_175 : decode cX6_piece 175 = .ok (.iload_n 3, 1) := dk_29 (dk_at dksX6_piece_7 13 rfl rfl)
theorem dX6_piece_176 : decode cX6_piece 176 = .ok (.iload 4, 2) := dk_21 4 (dk_at dksX6_piece_7 14 rfl rfl)
theorem dX6_piece_178 : decode cX6_piece 178 = .ok (.isub, 1) := dk_100 (dk_at dksX6_piece_7 16 rfl rfl)
theorem dX6_piece_179 : decode cX6_piece 179 = .ok (.istore_n 3, 1) := dk_62 (dk_at dksX6_piece_7 17 rfl rfl)
theorem dX6_piece_180 : decode cX6_piece 180 = .ok (.aload_n 0, 1) := dk_42 (dk_at dksX6_piece_7 18 rfl rfl)
theorem dX6_piece_181 : decode cX6_piece 181 = .ok (.invokevirtual 176, 3) := dk_182 0 176 (dk_at dksX6_piece_7 19 rfl rfl)
theorem dX6_piece_184 : decode cX6_piece 184 = .ok (.goto (-116), 3) := dk_167 255 140 (dk_at dksX6_piece_8 0 rfl rfl)
theorem dX6_piece_187 : decode cX6_piece 187 = .ok (.iconst 0, 1) := dk_3 (dk_at dksX6_piece_8 3 rfl rfl)
theorem dX6_piece_188 : decode cX6_piece 188 = .ok (.istore 4, 2) := dk_54 4 (dk_at dksX6_piece_8 4 rfl rfl)
theorem dX6_piece_190 : decode cX6_piece 190 = .ok (.iload 4, 2) := dk_21 4 (dk_at dksX6_piece_8 6 rfl rfl)
theorem dX6_piece_192 : decode cX6_piece 192 = .ok (.iload_n 3, 1) := dk_29 (dk_at dksX6_piece_8 8 rfl rfl)
theorem dX6_piece_193 : decode cX6_piece 193 = .ok (.if_icmp .ge 22, 3) := dk_162 0 22 (dk_at dksX6_piece_8 9 rfl rfl)
theorem dX6_piece_196 : decode cX6_piece 196 = .ok (.aload_n 0, 1) := dk_42 (dk_at dksX6_piece_8 12 rfl rfl)
theorem dX6_piece_197 : decode cX6_piece 197 = .ok (.aload_n 0, 1) := dk_42 (dk_at dksX6_piece_8 13 rfl rfl)
theorem dX6_piece_198 : decode cX6_piece 198 = .ok (.getfield 15, 3) := dk_180 0 15 (dk_at dksX6_piece_8 14 rfl rfl)
theorem dX6_piece_201 : decode cX6_piece 201 = .ok (.iload_n 2, 1) := dk_28 (dk_at dksX6_piece_8 17 rfl rfl)
theorem dX6_piece_202 : decode cX6_piece 202 = .ok (.iload 4, 2) := dk_21 4 (dk_at dksX6_piece_8 18 rfl rfl)
theorem dX6_piece_204 : decode cX6_piece 204 = .ok (.iadd, 1) := dk_96 (dk_at dksX6_piece_8 20 rfl rfl)
theorem dX6_piece_205 : decode cX6_piece 205 = .ok (.iaload, 1) := dk_46 (dk_at dksX6_piece_8 21 rfl rfl)
theorem dX6_piece_206 : decode cX6_piece 206 = .ok (.invokevirtual 179, 3) := dk_182 0 179 (dk_at dksX6_piece_9 0 rfl rfl)
theorem dX6_piece_209 : decode cX6_piece 209 = .ok (.iinc 4 1, 3) := dk_132 4 1 (dk_at dksX6_piece_9 3 rfl rfl)
theorem dX6_piece_212 : decode cX6_piece 212 = .ok (.goto (-22), 3) := dk_167 255 234 (dk_at dksX6_piece_9 6 rfl rfl)
theorem dX6_piece_215 : decode cX6_piece 215 = .ok (.aload_n 0, 1) := dk_42 (dk_at dksX6_piece_9 9 rfl rfl)
theorem dX6_piece_216 : decode cX6_piece 216 = .ok (.getfield 28, 3) := dk_180 0 28 (dk_at dksX6_piece_9 10 rfl rfl)
theorem dX6_piece_219 : decode cX6_piece 219 = .ok (.iload_n 1, 1) := dk_27 (dk_at dksX6_piece_9 13 rfl rfl)
theorem dX6_piece_220 : decode cX6_piece 220 = .ok (.aload_n 0, 1) := dk_42 (dk_at dksX6_piece_9 14 rfl rfl)
theorem dX6_piece_221 : decode cX6_piece 221 = .ok (.getfield 166, 3) := dk_180 0 166 (dk_at dksX6_piece_9 15 rfl rfl)
theorem dX6_piece_224 : decode cX6_piece 224 = .ok (.iastore, 1) := dk_79 (dk_at dksX6_piece_9 18 rfl rfl)
theorem dX6_piece_225 : decode cX6_piece 225 = .ok (.return_, 1) := dk_177 (dk_at dksX6_piece_9 19 rfl rfl)
abbrev cX6_inLine : ByteArray := prog_12_method_16_code
def yX6_inLine : MethodName := ⟨RX6, "inLine", "()I"⟩
def dkwX6_inLine_0 : List UInt8 := [42, 180, 0, 163, 42, 180, 0, 40, 42, 180, 0, 166, 46, 100, 172]
abbrev dktX6_inLine_0 : List UInt8 := dkwX6_inLine_0 ++ []
theorem dksX6_inLine_0 : cX6_inLine.data.toList.drop 0 = dktX6_inLine_0 := by decide +kernel
theorem dX6_inLine_0 : decode cX6_inLine 0 = .ok (.aload_n 0, 1) := dk_42 (dk_at dksX6_inLine_0 0 rfl rfl)
theorem dX6_inLine_1 : decode cX6_inLine 1 = .ok (.getfield 163, 3) := dk_180 0 163 (dk_at dksX6_inLine_0 1 rfl rfl)
theorem dX6_inLine_4 : decode cX6_inLine 4 = .ok (.aload_n 0, 1) := dk_42 (dk_at dksX6_inLine_0 4 rfl rfl)
theorem dX6_inLine_5 : decode cX6_inLine 5 = .ok (.getfield 40, 3) := dk_180 0 40 (dk_at dksX6_inLine_0 5 rfl rfl)
theorem dX6_inLine_8 : decode cX6_inLine 8 = .ok (.aload_n 0, 1) := dk_42 (dk_at dksX6_inLine_0 8 rfl rfl)
theorem dX6_inLine_9 : decode cX6_inLine 9 = .ok (.getfield 166, 3) := dk_180 0 166 (dk_at dksX6_inLine_0 9 rfl rfl)
theorem dX6_inLine_12 : decode cX6_inLine 12 = .ok (.iaload, 1) := dk_46 (dk_at dksX6_inLine_0 12 rfl rfl)
theorem dX6_inLine_13 : decode cX6_inLine 13 = .ok (.isub, 1) := dk_100 (dk_at dksX6_inLine_0 13 rfl rfl)
theorem dX6_inLine_14 : decode cX6_inLine 14 = .ok (.ireturn, 1) := dk_172 (dk_at dksX6_inLine_0 14 rfl rfl)
abbrev cX6_ends : ByteArray := prog_12_method_15_code
def yX6_ends : MethodName := ⟨RX6, "ends", "()V"⟩
def dkwX6_ends_0 : List UInt8 := [42, 89, 180, 0, 166, 4, 96, 181, 0, 166, 42, 180, 0, 40, 42, 180, 0, 166, 42, 180, 0, 163, 79, 177]
abbrev dktX6_ends_0 : List UInt8 := dkwX6_ends_0 ++ []
theorem dksX6_ends_0 : cX6_ends.data.toList.drop 0 = dktX6_ends_0 := by decide +kernel
theorem dX6_ends_0 : decode cX6_ends 0 = .ok (.aload_n 0, 1) := dk_42 (dk_at dksX6_ends_0 0 rfl rfl)
theorem dX6_ends_1 : decode cX6_ends 1 = .ok (.dup, 1) := dk_89 (dk_at dksX6_ends_0 1 rfl rfl)
theorem dX6_ends_2 : decode cX6_ends 2 = .ok (.getfield 166, 3) := dk_180 0 166 (dk_at dksX6_ends_0 2 rfl rfl)
theorem dX6_ends_5 : decode cX6_ends 5 = .ok (.iconst 1, 1) := dk_4 (dk_at dksX6_ends_0 5 rfl rfl)
theorem dX6_ends_6 : decode cX6_ends 6 = .ok (.iadd, 1) := dk_96 (dk_at dksX6_ends_0 6 rfl rfl)
theorem dX6_ends_7 : decode cX6_ends 7 = .ok (.putfield 166, 3) := dk_181 0 166 (dk_at dksX6_ends_0 7 rfl rfl)
theorem dX6_ends_10 : decode cX6_ends 10 = .ok (.aload_n 0, 1) := dk_42 (dk_at dksX6_ends_0 10 rfl rfl)
theorem dX6_ends_11 : decode cX6_ends 11 = .ok (.getfield 40, 3) := dk_180 0 40 (dk_at dksX6_ends_0 11 rfl rfl)
theorem dX6_ends_14 : decode cX6_ends 14 = .ok (.aload_n 0, 1) := dk_42 (dk_at dksX6_ends_0 14 rfl rfl)
theorem dX6_ends_15 : decode cX6_ends 15 = .ok (.getfield 166, 3) := dk_180 0 166 (dk_at dksX6_ends_0 15 rfl rfl)
theorem dX6_ends_18 : decode cX6_ends 18 = .ok (.aload_n 0, 1) := dk_42 (dk_at dksX6_ends_0 18 rfl rfl)
theorem dX6_ends_19 : decode cX6_ends 19 = .ok (.getfield 163, 3) := dk_180 0 163 (dk_at dksX6_ends_0 19 rfl rfl)
theorem dX6_ends_22 : decode cX6_ends 22 = .ok (.iastore, 1) := dk_79 (dk_at dksX6_ends_0 22 rfl rfl)
theorem dX6_ends_23 : decode cX6_ends 23 = .ok (.return_, 1) := dk_177 (dk_at dksX6_ends_0 23 rfl rfl)
abbrev cX6_lays : ByteArray := prog_12_method_14_code
def yX6_lays : MethodName := ⟨RX6, "lays", "(I)V"⟩
def dkwX6_lays_0 : List UInt8 := [42, 180, 0, 37, 42, 180, 0, 163, 27, 79, 42, 89, 180, 0, 163, 4, 96, 181, 0, 163, 177]
abbrev dktX6_lays_0 : List UInt8 := dkwX6_lays_0 ++ []
theorem dksX6_lays_0 : cX6_lays.data.toList.drop 0 = dktX6_lays_0 := by decide +kernel
theorem dX6_lays_0 : decode cX6_lays 0 = .ok (.aload_n 0, 1) := dk_42 (dk_at dksX6_lays_0 0 rfl rfl)
theorem dX6_lays_1 : decode cX6_lays 1 = .ok (.getfield 37, 3) := dk_180 0 37 (dk_at dksX6_lays_0 1 rfl rfl)
theorem dX6_lays_4 : decode cX6_lays 4 = .ok (.aload_n 0, 1) := dk_42 (dk_at dksX6_lays_0 4 rfl rfl)
theorem dX6_lays_5 : decode cX6_lays 5 = .ok (.getfield 163, 3) := dk_180 0 163 (dk_at dksX6_lays_0 5 rfl rfl)
theorem dX6_lays_8 : decode cX6_lays 8 = .ok (.iload_n 1, 1) := dk_27 (dk_at dksX6_lays_0 8 rfl rfl)
theorem dX6_lays_9 : decode cX6_lays 9 = .ok (.iastore, 1) := dk_79 (dk_at dksX6_lays_0 9 rfl rfl)
theorem dX6_lays_10 : decode cX6_lays 10 = .ok (.aload_n 0, 1) := dk_42 (dk_at dksX6_lays_0 10 rfl rfl)
theorem dX6_lays_11 : decode cX6_lays 11 = .ok (.dup, 1) := dk_89 (dk_at dksX6_lays_0 11 rfl rfl)
theorem dX6_lays_12 : decode cX6_lays 12 = .ok (.getfield 163, 3) := dk_180 0 163 (dk_at dksX6_lays_0 12 rfl rfl)
theorem dX6_lays_15 : decode cX6_lays 15 = .ok (.iconst 1, 1) := dk_4 (dk_at dksX6_lays_0 15 rfl rfl)
theorem dX6_lays_16 : decode cX6_lays 16 = .ok (.iadd, 1) := dk_96 (dk_at dksX6_lays_0 16 rfl rfl)
theorem dX6_lays_17 : decode cX6_lays 17 = .ok (.putfield 163, 3) := dk_181 0 163 (dk_at dksX6_lays_0 17 rfl rfl)
theorem dX6_lays_20 : decode cX6_lays 20 = .ok (.return_, 1) := dk_177 (dk_at dksX6_lays_0 20 rfl rfl)
abbrev cX6_cut : ByteArray := prog_12_method_18_code
def yX6_cut : MethodName := ⟨RX6, "cut", "([II)[I"⟩
def dkwX6_cut_0 : List UInt8 := [28, 188, 10, 78, 43, 3, 45, 3, 28, 184, 0, 188, 45, 176]
abbrev dktX6_cut_0 : List UInt8 := dkwX6_cut_0 ++ []
theorem dksX6_cut_0 : cX6_cut.data.toList.drop 0 = dktX6_cut_0 := by decide +kernel
theorem dX6_cut_0 : decode cX6_cut 0 = .ok (.iload_n 2, 1) := dk_28 (dk_at dksX6_cut_0 0 rfl rfl)
theorem dX6_cut_1 : decode cX6_cut 1 = .ok (.newarray .int, 2) := dk_188_10 (dk_at dksX6_cut_0 1 rfl rfl)
theorem dX6_cut_3 : decode cX6_cut 3 = .ok (.astore_n 3, 1) := dk_78 (dk_at dksX6_cut_0 3 rfl rfl)
theorem dX6_cut_4 : decode cX6_cut 4 = .ok (.aload_n 1, 1) := dk_43 (dk_at dksX6_cut_0 4 rfl rfl)
theorem dX6_cut_5 : decode cX6_cut 5 = .ok (.iconst 0, 1) := dk_3 (dk_at dksX6_cut_0 5 rfl rfl)
theorem dX6_cut_6 : decode cX6_cut 6 = .ok (.aload_n 3, 1) := dk_45 (dk_at dksX6_cut_0 6 rfl rfl)
theorem dX6_cut_7 : decode cX6_cut 7 = .ok (.iconst 0, 1) := dk_3 (dk_at dksX6_cut_0 7 rfl rfl)
theorem dX6_cut_8 : decode cX6_cut 8 = .ok (.iload_n 2, 1) := dk_28 (dk_at dksX6_cut_0 8 rfl rfl)
theorem dX6_cut_9 : decode cX6_cut 9 = .ok (.invokestatic 188, 3) := dk_184 0 188 (dk_at dksX6_cut_0 9 rfl rfl)
theorem dX6_cut_12 : decode cX6_cut 12 = .ok (.aload_n 3, 1) := dk_45 (dk_at dksX6_cut_0 12 rfl rfl)
theorem dX6_cut_13 : decode cX6_cut 13 = .ok (.areturn, 1) := dk_176 (dk_at dksX6_cut_0 13 rfl rfl)
abbrev cX6_plain : ByteArray := prog_12_method_23_code
def yX6_plain : MethodName := ⟨RX6, "plain", "()I"⟩
def dkwX6_plain_2 : List UInt8 := [42, 180, 0, 46, 180, 0, 54, 29, 50, 180, 0, 104, 190, 96, 60, 132, 2, 1, 167, 255, 194, 27, 172]
abbrev dktX6_plain_2 : List UInt8 := dkwX6_plain_2 ++ []
def dkwX6_plain_1 : List UInt8 := [167, 0, 39, 42, 42, 180, 0, 74, 28, 51, 184, 0, 80, 182, 0, 94, 62, 29, 156, 0, 5, 2, 172, 27]
abbrev dktX6_plain_1 : List UInt8 := dkwX6_plain_1 ++ dktX6_plain_2
def dkwX6_plain_0 : List UInt8 := [3, 60, 3, 61, 28, 42, 180, 0, 112, 162, 0, 60, 42, 180, 0, 74, 28, 51, 184, 0, 113, 154, 0, 6]
abbrev dktX6_plain_0 : List UInt8 := dkwX6_plain_0 ++ dktX6_plain_1
theorem dksX6_plain_0 : cX6_plain.data.toList.drop 0 = dktX6_plain_0 := by decide +kernel
theorem dksX6_plain_1 : cX6_plain.data.toList.drop 24 = dktX6_plain_1 := dk_seg dksX6_plain_0 24 rfl rfl
theorem dksX6_plain_2 : cX6_plain.data.toList.drop 48 = dktX6_plain_2 := dk_seg dksX6_plain_1 24 rfl rfl
theorem dX6_plain_0 : decode cX6_plain 0 = .ok (.iconst 0, 1) := dk_3 (dk_at dksX6_plain_0 0 rfl rfl)
theorem dX6_plain_1 : decode cX6_plain 1 = .ok (.istore_n 1, 1) := dk_60 (dk_at dksX6_plain_0 1 rfl rfl)
theorem dX6_plain_2 : decode cX6_plain 2 = .ok (.iconst 0, 1) := dk_3 (dk_at dksX6_plain_0 2 rfl rfl)
theorem dX6_plain_3 : decode cX6_plain 3 = .ok (.istore_n 2, 1) := dk_61 (dk_at dksX6_plain_0 3 rfl rfl)
theorem dX6_plain_4 : decode cX6_plain 4 = .ok (.iload_n 2, 1) := dk_28 (dk_at dksX6_plain_0 4 rfl rfl)
theorem dX6_plain_5 : decode cX6_plain 5 = .ok (.aload_n 0, 1) := dk_42 (dk_at dksX6_plain_0 5 rfl rfl)
theorem dX6_plain_6 : decode cX6_plain 6 = .ok (.getfield 112, 3) := dk_180 0 112 (dk_at dksX6_plain_0 6 rfl rfl)
theorem dX6_plain_9 : decode cX6_plain 9 = .ok (.if_icmp .ge 60, 3) := dk_162 0 60 (dk_at dksX6_plain_0 9 rfl rfl)
theorem dX6_plain_12 : decode cX6_plain 12 = .ok (.aload_n 0, 1) := dk_42 (dk_at dksX6_plain_0 12 rfl rfl)
theorem dX6_plain_13 : decode cX6_plain 13 = .ok (.getfield 74, 3) := dk_180 0 74 (dk_at dksX6_plain_0 13 rfl rfl)
theorem dX6_plain_16 : decode cX6_plain 16 = .ok (.iload_n 2, 1) := dk_28 (dk_at dksX6_plain_0 16 rfl rfl)
theorem dX6_plain_17 : decode cX6_plain 17 = .ok (.baload, 1) := dk_51 (dk_at dksX6_plain_0 17 rfl rfl)
theorem dX6_plain_18 : decode cX6_plain 18 = .ok (.invokestatic 113, 3) := dk_184 0 113 (dk_at dksX6_plain_0 18 rfl rfl)
theorem dX6_plain_21 : decode cX6_plain 21 = .ok (.ifCond .ne 6, 3) := dk_154 0 6 (dk_at dksX6_plain_0 21 rfl rfl)
theorem dX6_plain_24 : decode cX6_plain 24 = .ok (.goto 39, 3) := dk_167 0 39 (dk_at dksX6_plain_1 0 rfl rfl)
theorem dX6_plain_27 : decode cX6_plain 27 = .ok (.aload_n 0, 1) := dk_42 (dk_at dksX6_plain_1 3 rfl rfl)
theorem dX6_plain_28 : decode cX6_plain 28 = .ok (.aload_n 0, 1) := dk_42 (dk_at dksX6_plain_1 4 rfl rfl)
theorem dX6_plain_29 : decode cX6_plain 29 = .ok (.getfield 74, 3) := dk_180 0 74 (dk_at dksX6_plain_1 5 rfl rfl)
theorem dX6_plain_32 : decode cX6_plain 32 = .ok (.iload_n 2, 1) := dk_28 (dk_at dksX6_plain_1 8 rfl rfl)
theorem dX6_plain_33 : decode cX6_plain 33 = .ok (.baload, 1) := dk_51 (dk_at dksX6_plain_1 9 rfl rfl)
theorem dX6_plain_34 : decode cX6_plain 34 = .ok (.invokestatic 80, 3) := dk_184 0 80 (dk_at dksX6_plain_1 10 rfl rfl)
theorem dX6_plain_37 : decode cX6_plain 37 = .ok (.invokevirtual 94, 3) := dk_182 0 94 (dk_at dksX6_plain_1 13 rfl rfl)
theorem dX6_plain_40 : decode cX6_plain 40 = .ok (.istore_n 3, 1) := dk_62 (dk_at dksX6_plain_1 16 rfl rfl)
theorem dX6_plain_41 : decode cX6_plain 41 = .ok (.iload_n 3, 1) := dk_29 (dk_at dksX6_plain_1 17 rfl rfl)
theorem dX6_plain_42 : decode cX6_plain 42 = .ok (.ifCond .ge 5, 3) := dk_156 0 5 (dk_at dksX6_plain_1 18 rfl rfl)
theorem dX6_plain_45 : decode cX6_plain 45 = .ok (.iconst (-1), 1) := dk_2 (dk_at dksX6_plain_1 21 rfl rfl)
theorem dX6_plain_46 : decode cX6_plain 46 = .ok (.ireturn, 1) := dk_172 (dk_at dksX6_plain_1 22 rfl rfl)
theorem dX6_plain_47 : decode cX6_plain 47 = .ok (.iload_n 1, 1) := dk_27 (dk_at dksX6_plain_1 23 rfl rfl)
theorem dX6_plain_48 : decode cX6_plain 48 = .ok (.aload_n 0, 1) := dk_42 (dk_at dksX6_plain_2 0 rfl rfl)
theorem dX6_plain_49 : decode cX6_plain 49 = .ok (.getfield 46, 3) := dk_180 0 46 (dk_at dksX6_plain_2 1 rfl rfl)
theorem dX6_plain_52 : decode cX6_plain 52 = .ok (.getfield 54, 3) := dk_180 0 54 (dk_at dksX6_plain_2 4 rfl rfl)
theorem dX6_plain_55 : decode cX6_plain 55 = .ok (.iload_n 3, 1) := dk_29 (dk_at dksX6_plain_2 7 rfl rfl)
theorem dX6_plain_56 : decode cX6_plain 56 = .ok (.aaload, 1) := dk_50 (dk_at dksX6_plain_2 8 rfl rfl)
theorem dX6_plain_57 : decode cX6_plain 57 = .ok (.getfield 104, 3) := dk_180 0 104 (dk_at dksX6_plain_2 9 rfl rfl)
theorem dX6_plain_60 : decode cX6_plain 60 = .ok (.arraylength, 1) := dk_190 (dk_at dksX6_plain_2 12 rfl rfl)
theorem dX6_plain_61 : decode cX6_plain 61 = .ok (.iadd, 1) := dk_96 (dk_at dksX6_plain_2 13 rfl rfl)
theorem dX6_plain_62 : decode cX6_plain 62 = .ok (.istore_n 1, 1) := dk_60 (dk_at dksX6_plain_2 14 rfl rfl)
theorem dX6_plain_63 : decode cX6_plain 63 = .ok (.iinc 2 1, 3) := dk_132 2 1 (dk_at dksX6_plain_2 15 rfl rfl)
theorem dX6_plain_66 : decode cX6_plain 66 = .ok (.goto (-62), 3) := dk_167 255 194 (dk_at dksX6_plain_2 18 rfl rfl)
theorem dX6_plain_69 : decode cX6_plain 69 = .ok (.iload_n 1, 1) := dk_27 (dk_at dksX6_plain_2 21 rfl rfl)
theorem dX6_plain_70 : decode cX6_plain 70 = .ok (.ireturn, 1) := dk_172 (dk_at dksX6_plain_2 22 rfl rfl)
abbrev cX6_fewest : ByteArray := prog_12_method_21_code
def yX6_fewest : MethodName := ⟨RX6, "fewest", "()I"⟩
def dkwX6_fewest_3 : List UInt8 := [167, 0, 4, 3, 100, 60, 132, 4, 1, 167, 255, 226, 29, 61, 167, 255, 177, 27, 42, 180, 0, 109, 100, 172]
abbrev dktX6_fewest_3 : List UInt8 := dkwX6_fewest_3 ++ []
def dkwX6_fewest_2 : List UInt8 := [28, 54, 4, 21, 4, 29, 162, 0, 30, 27, 42, 180, 0, 74, 21, 4, 51, 184, 0, 77, 153, 0, 7, 4]
abbrev dktX6_fewest_2 : List UInt8 := dkwX6_fewest_2 ++ dktX6_fewest_3
def dkwX6_fewest_1 : List UInt8 := [154, 0, 9, 132, 2, 1, 167, 255, 233, 42, 28, 182, 0, 116, 62, 27, 42, 28, 29, 182, 0, 227, 96, 60]
abbrev dktX6_fewest_1 : List UInt8 := dkwX6_fewest_1 ++ dktX6_fewest_2
def dkwX6_fewest_0 : List UInt8 := [42, 180, 0, 101, 60, 3, 61, 28, 42, 180, 0, 112, 162, 0, 77, 42, 180, 0, 74, 28, 51, 184, 0, 113]
abbrev dktX6_fewest_0 : List UInt8 := dkwX6_fewest_0 ++ dktX6_fewest_1
theorem dksX6_fewest_0 : cX6_fewest.data.toList.drop 0 = dktX6_fewest_0 := by decide +kernel
theorem dksX6_fewest_1 : cX6_fewest.data.toList.drop 24 = dktX6_fewest_1 := dk_seg dksX6_fewest_0 24 rfl rfl
theorem dksX6_fewest_2 : cX6_fewest.data.toList.drop 48 = dktX6_fewest_2 := dk_seg dksX6_fewest_1 24 rfl rfl
theorem dksX6_fewest_3 : cX6_fewest.data.toList.drop 72 = dktX6_fewest_3 := dk_seg dksX6_fewest_2 24 rfl rfl
theorem dX6_fewest_0 : decode cX6_fewest 0 = .ok (.aload_n 0, 1) := dk_42 (dk_at dksX6_fewest_0 0 rfl rfl)
theorem dX6_fewest_1 : decode cX6_fewest 1 = .ok (.getfield 101, 3) := dk_180 0 101 (dk_at dksX6_fewest_0 1 rfl rfl)
theorem dX6_fewest_4 : decode cX6_fewest 4 = .ok (.istore_n 1, 1) := dk_60 (dk_at dksX6_fewest_0 4 rfl rfl)
theorem dX6_fewest_5 : decode cX6_fewest 5 = .ok (.iconst 0, 1) := dk_3 (dk_at dksX6_fewest_0 5 rfl rfl)
theorem dX6_fewest_6 : decode cX6_fewest 6 = .ok (.istore_n 2, 1) := dk_61 (dk_at dksX6_fewest_0 6 rfl rfl)
theorem dX6_fewest_7 : decode cX6_fewest 7 = .ok (.iload_n 2, 1) := dk_28 (dk_at dksX6_fewest_0 7 rfl rfl)
theorem dX6_fewest_8 : decode cX6_fewest 8 = .ok (.aload_n 0, 1) := dk_42 (dk_at dksX6_fewest_0 8 rfl rfl)
theorem dX6_fewest_9 : decode cX6_fewest 9 = .ok (.getfield 112, 3) := dk_180 0 112 (dk_at dksX6_fewest_0 9 rfl rfl)
theorem dX6_fewest_12 : decode cX6_fewest 12 = .ok (.if_icmp .ge 77, 3) := dk_162 0 77 (dk_at dksX6_fewest_0 12 rfl rfl)
theorem dX6_fewest_15 : decode cX6_fewest 15 = .ok (.aload_n 0, 1) := dk_42 (dk_at dksX6_fewest_0 15 rfl rfl)
theorem dX6_fewest_16 : decode cX6_fewest 16 = .ok (.getfield 74, 3) := dk_180 0 74 (dk_at dksX6_fewest_0 16 rfl rfl)
theorem dX6_fewest_19 : decode cX6_fewest 19 = .ok (.iload_n 2, 1) := dk_28 (dk_at dksX6_fewest_0 19 rfl rfl)
theorem dX6_fewest_20 : decode cX6_fewest 20 = .ok (.baload, 1) := dk_51 (dk_at dksX6_fewest_0 20 rfl rfl)
theorem dX6_fewest_21 : decode cX6_fewest 21 = .ok (.invokestatic 113, 3) := dk_184 0 113 (dk_at dksX6_fewest_0 21 rfl rfl)
theorem dX6_fewest_24 : decode cX6_fewest 24 = .ok (.ifCond .ne 9, 3) := dk_154 0 9 (dk_at dksX6_fewest_1 0 rfl rfl)
theorem dX6_fewest_27 : decode cX6_fewest 27 = .ok (.iinc 2 1, 3) := dk_132 2 1 (dk_at dksX6_fewest_1 3 rfl rfl)
theorem dX6_fewest_30 : decode cX6_fewest 30 = .ok (.goto (-23), 3) := dk_167 255 233 (dk_at dksX6_fewest_1 6 rfl rfl)
theorem dX6_fewest_33 : decode cX6_fewest 33 = .ok (.aload_n 0, 1) := dk_42 (dk_at dksX6_fewest_1 9 rfl rfl)
theorem dX6_fewest_34 : decode cX6_fewest 34 = .ok (.iload_n 2, 1) := dk_28 (dk_at dksX6_fewest_1 10 rfl rfl)
theorem dX6_fewest_35 : decode cX6_fewest 35 = .ok (.invokevirtual 116, 3) := dk_182 0 116 (dk_at dksX6_fewest_1 11 rfl rfl)
theorem dX6_fewest_38 : decode cX6_fewest 38 = .ok (.istore_n 3, 1) := dk_62 (dk_at dksX6_fewest_1 14 rfl rfl)
theorem dX6_fewest_39 : decode cX6_fewest 39 = .ok (.iload_n 1, 1) := dk_27 (dk_at dksX6_fewest_1 15 rfl rfl)
theorem dX6_fewest_40 : decode cX6_fewest 40 = .ok (.aload_n 0, 1) := dk_42 (dk_at dksX6_fewest_1 16 rfl rfl)
theorem dX6_fewest_41 : decode cX6_fewest 41 = .ok (.iload_n 2, 1) := dk_28 (dk_at dksX6_fewest_1 17 rfl rfl)
theorem dX6_fewest_42 : decode cX6_fewest 42 = .ok (.iload_n 3, 1) := dk_29 (dk_at dksX6_fewest_1 18 rfl rfl)
theorem dX6_fewest_43 : decode cX6_fewest 43 = .ok (.invokevirtual 227, 3) := dk_182 0 227 (dk_at dksX6_fewest_1 19 rfl rfl)
theorem dX6_fewest_46 : decode cX6_fewest 46 = .ok (.iadd, 1) := dk_96 (dk_at dksX6_fewest_1 22 rfl rfl)
theorem dX6_fewest_47 : decode cX6_fewest 47 = .ok (.istore_n 1, 1) := dk_60 (dk_at dksX6_fewest_1 23 rfl rfl)
theorem dX6_fewest_48 : decode cX6_fewest 48 = .ok (.iload_n 2, 1) := dk_28 (dk_at dksX6_fewest_2 0 rfl rfl)
theorem dX6_fewest_49 : decode cX6_fewest 49 = .ok (.istore 4, 2) := dk_54 4 (dk_at dksX6_fewest_2 1 rfl rfl)
theorem dX6_fewest_51 : decode cX6_fewest 51 = .ok (.iload 4, 2) := dk_21 4 (dk_at dksX6_fewest_2 3 rfl rfl)
theorem dX6_fewest_53 : decode cX6_fewest 53 = .ok (.iload_n 3, 1) := dk_29 (dk_at dksX6_fewest_2 5 rfl rfl)
theorem dX6_fewest_54 : decode cX6_fewest 54 = .ok (.if_icmp .ge 30, 3) := dk_162 0 30 (dk_at dksX6_fewest_2 6 rfl rfl)
theorem dX6_fewest_57 : decode cX6_fewest 57 = .ok (.iload_n 1, 1) := dk_27 (dk_at dksX6_fewest_2 9 rfl rfl)
theorem dX6_fewest_58 : decode cX6_fewest 58 = .ok (.aload_n 0, 1) := dk_42 (dk_at dksX6_fewest_2 10 rfl rfl)
theorem dX6_fewest_59 : decode cX6_fewest 59 = .ok (.getfield 74, 3) := dk_180 0 74 (dk_at dksX6_fewest_2 11 rfl rfl)
theorem dX6_fewest_62 : decode cX6_fewest 62 = .ok (.iload 4, 2) := dk_21 4 (dk_at dksX6_fewest_2 14 rfl rfl)
theorem dX6_fewest_64 : decode cX6_fewest 64 = .ok (.baload, 1) := dk_51 (dk_at dksX6_fewest_2 16 rfl rfl)
theorem dX6_fewest_65 : decode cX6_fewest 65 = .ok (.invokestatic 77, 3) := dk_184 0 77 (dk_at dksX6_fewest_2 17 rfl rfl)
theorem dX6_fewest_68 : decode cX6_fewest 68 = .ok (.ifCond .eq 7, 3) := dk_153 0 7 (dk_at dksX6_fewest_2 20 rfl rfl)
theorem dX6_fewest_71 : decode cX6_fewest 71 = .ok (.iconst 1, 1) := dk_4 (dk_at dksX6_fewest_2 23 rfl rfl)
theorem dX6_fewest_72 : decode cX6_fewest 72 = .ok (.goto 4, 3) := dk_167 0 4 (dk_at dksX6_fewest_3 0 rfl rfl)
theorem dX6_fewest_75 : decode cX6_fewest 75 = .ok (.iconst 0, 1) := dk_3 (dk_at dksX6_fewest_3 3 rfl rfl)
theorem dX6_fewest_76 : decode cX6_fewest 76 = .ok (.isub, 1) := dk_100 (dk_at dksX6_fewest_3 4 rfl rfl)
theorem dX6_fewest_77 : decode cX6_fewest 77 = .ok (.istore_n 1, 1) := dk_60 (dk_at dksX6_fewest_3 5 rfl rfl)
theorem dX6_fewest_78 : decode cX6_fewest 78 = .ok (.iinc 4 1, 3) := dk_132 4 1 (dk_at dksX6_fewest_3 6 rfl rfl)
theorem dX6_fewest_81 : decode cX6_fewest 81 = .ok (.goto (-30), 3) := dk_167 255 226 (dk_at dksX6_fewest_3 9 rfl rfl)
theorem dX6_fewest_84 : decode cX6_fewest 84 = .ok (.iload_n 3, 1) := dk_29 (dk_at dksX6_fewest_3 12 rfl rfl)
theorem dX6_fewest_85 : decode cX6_fewest 85 = .ok (.istore_n 2, 1) := dk_61 (dk_at dksX6_fewest_3 13 rfl rfl)
theorem dX6_fewest_86 : decode cX6_fewest 86 = .ok (.goto (-79), 3) := dk_167 255 177 (dk_at dksX6_fewest_3 14 rfl rfl)
theorem dX6_fewest_89 : decode cX6_fewest 89 = .ok (.iload_n 1, 1) := dk_27 (dk_at dksX6_fewest_3 17 rfl rfl)
theorem dX6_fewest_90 : decode cX6_fewest 90 = .ok (.aload_n 0, 1) := dk_42 (dk_at dksX6_fewest_3 18 rfl rfl)
theorem dX6_fewest_91 : decode cX6_fewest 91 = .ok (.getfield 109, 3) := dk_180 0 109 (dk_at dksX6_fewest_3 19 rfl rfl)
theorem dX6_fewest_94 : decode cX6_fewest 94 = .ok (.isub, 1) := dk_100 (dk_at dksX6_fewest_3 22 rfl rfl)
theorem dX6_fewest_95 : decode cX6_fewest 95 = .ok (.ireturn, 1) := dk_172 (dk_at dksX6_fewest_3 23 rfl rfl)
abbrev cX6_fewest_2 : ByteArray := prog_12_method_20_code
def yX6_fewest_2 : MethodName := ⟨RX6, "fewest", "(II)I"⟩
def dkwX6_fewest_2_6 : List UInt8 := [132, 3, 255, 167, 255, 114, 42, 180, 0, 43, 27, 46, 172]
abbrev dktX6_fewest_2_6 : List UInt8 := dkwX6_fewest_2_6 ++ []
def dkwX6_fewest_2_5 : List UInt8 := [167, 0, 4, 3, 96, 184, 0, 221, 54, 4, 132, 5, 1, 167, 255, 149, 42, 180, 0, 43, 29, 21, 4, 79]
abbrev dktX6_fewest_2_5 : List UInt8 := dkwX6_fewest_2_5 ++ dktX6_fewest_2_6
def dkwX6_fewest_2_4 : List UInt8 := [180, 0, 54, 21, 5, 50, 180, 0, 104, 190, 96, 42, 180, 0, 74, 29, 51, 184, 0, 77, 153, 0, 7, 4]
abbrev dktX6_fewest_2_4 : List UInt8 := dkwX6_fewest_2_4 ++ dktX6_fewest_2_5
def dkwX6_fewest_2_3 : List UInt8 := [180, 0, 60, 190, 96, 46, 54, 6, 21, 6, 18, 220, 162, 0, 45, 21, 4, 21, 6, 42, 180, 0, 46]
abbrev dktX6_fewest_2_3 : List UInt8 := dkwX6_fewest_2_3 ++ dktX6_fewest_2_4
def dkwX6_fewest_2_2 : List UInt8 := [182, 0, 87, 154, 0, 6, 167, 0, 75, 42, 180, 0, 43, 29, 42, 180, 0, 46, 180, 0, 54, 21, 5, 50]
abbrev dktX6_fewest_2_2 : List UInt8 := dkwX6_fewest_2_2 ++ dktX6_fewest_2_3
def dkwX6_fewest_2_1 : List UInt8 := [21, 5, 42, 180, 0, 46, 180, 0, 84, 162, 0, 101, 29, 28, 162, 0, 96, 42, 21, 5, 29, 27, 28]
abbrev dktX6_fewest_2_1 : List UInt8 := dkwX6_fewest_2_1 ++ dktX6_fewest_2_2
def dkwX6_fewest_2_0 : List UInt8 := [28, 62, 29, 27, 161, 0, 143, 29, 28, 160, 0, 7, 3, 167, 0, 5, 18, 220, 54, 4, 3, 54, 5]
abbrev dktX6_fewest_2_0 : List UInt8 := dkwX6_fewest_2_0 ++ dktX6_fewest_2_1
theorem dksX6_fewest_2_0 : cX6_fewest_2.data.toList.drop 0 = dktX6_fewest_2_0 := by decide +kernel
theorem dksX6_fewest_2_1 : cX6_fewest_2.data.toList.drop 23 = dktX6_fewest_2_1 := dk_seg dksX6_fewest_2_0 23 rfl rfl
theorem dksX6_fewest_2_2 : cX6_fewest_2.data.toList.drop 46 = dktX6_fewest_2_2 := dk_seg dksX6_fewest_2_1 23 rfl rfl
theorem dksX6_fewest_2_3 : cX6_fewest_2.data.toList.drop 70 = dktX6_fewest_2_3 := dk_seg dksX6_fewest_2_2 24 rfl rfl
theorem dksX6_fewest_2_4 : cX6_fewest_2.data.toList.drop 93 = dktX6_fewest_2_4 := dk_seg dksX6_fewest_2_3 23 rfl rfl
theorem dksX6_fewest_2_5 : cX6_fewest_2.data.toList.drop 117 = dktX6_fewest_2_5 := dk_seg dksX6_fewest_2_4 24 rfl rfl
theorem dksX6_fewest_2_6 : cX6_fewest_2.data.toList.drop 141 = dktX6_fewest_2_6 := dk_seg dksX6_fewest_2_5 24 rfl rfl
theorem dX6_fewest_2_0 : decode cX6_fewest_2 0 = .ok (.iload_n 2, 1) := dk_28 (dk_at dksX6_fewest_2_0 0 rfl rfl)
theorem dX6_fewest_2_1 : decode cX6_fewest_2 1 = .ok (.istore_n 3, 1) := dk_62 (dk_at dksX6_fewest_2_0 1 rfl rfl)
theorem dX6_fewest_2_2 : decode cX6_fewest_2 2 = .ok (.iload_n 3, 1) := dk_29 (dk_at dksX6_fewest_2_0 2 rfl rfl)
theorem dX6_fewest_2_3 : decode cX6_fewest_2 3 = .ok (.iload_n 1, 1) := dk_27 (dk_at dksX6_fewest_2_0 3 rfl rfl)
theorem dX6_fewest_2_4 : decode cX6_fewest_2 4 = .ok (.if_icmp .lt 143, 3) := dk_161 0 143 (dk_at dksX6_fewest_2_0 4 rfl rfl)
theorem dX6_fewest_2_7 : decode cX6_fewest_2 7 = .ok (.iload_n 3, 1) := dk_29 (dk_at dksX6_fewest_2_0 7 rfl rfl)
theorem dX6_fewest_2_8 : decode cX6_fewest_2 8 = .ok (.iload_n 2, 1) := dk_28 (dk_at dksX6_fewest_2_0 8 rfl rfl)
theorem dX6_fewest_2_9 : decode cX6_fewest_2 9 = .ok (.if_icmp .ne 7, 3) := dk_160 0 7 (dk_at dksX6_fewest_2_0 9 rfl rfl)
theorem dX6_fewest_2_12 : decode cX6_fewest_2 12 = .ok (.iconst 0, 1) := dk_3 (dk_at dksX6_fewest_2_0 12 rfl rfl)
theorem dX6_fewest_2_13 : decode cX6_fewest_2 13 = .ok (.goto 5, 3) := dk_167 0 5 (dk_at dksX6_fewest_2_0 13 rfl rfl)
theorem dX6_fewest_2_16 : decode cX6_fewest_2 16 = .ok (.ldc 220, 2) := dk_18 220 (dk_at dksX6_fewest_2_0 16 rfl rfl)
theorem dX6_fewest_2_18 : decode cX6_fewest_2 18 = .ok (.istore 4, 2) := dk_54 4 (dk_at dksX6_fewest_2_0 18 rfl rfl)
theorem dX6_fewest_2_20 : decode cX6_fewest_2 20 = .ok (.iconst 0, 1) := dk_3 (dk_at dksX6_fewest_2_0 20 rfl rfl)
theorem dX6_fewest_2_21 : decode cX6_fewest_2 21 = .ok (.istore 5, 2) := dk_54 5 (dk_at dksX6_fewest_2_0 21 rfl rfl)
theorem dX6_fewest_2_23 : decode cX6_fewest_2 23 = .ok (.iload 5, 2) := dk_21 5 (dk_at dksX6_fewest_2_1 0 rfl rfl)
theorem dX6_fewest_2_25 : decode cX6_fewest_2 25 = .ok (.aload_n 0, 1) := dk_42 (dk_at dksX6_fewest_2_1 2 rfl rfl)
theorem dX6_fewest_2_26 : decode cX6_fewest_2 26 = .ok (.getfield 46, 3) := dk_180 0 46 (dk_at dksX6_fewest_2_1 3 rfl rfl)
theorem dX6_fewest_2_29 : decode cX6_fewest_2 29 = .ok (.getfield 84, 3) := dk_180 0 84 (dk_at dksX6_fewest_2_1 6 rfl rfl)
theorem dX6_fewest_2_32 : decode cX6_fewest_2 32 = .ok (.if_icmp .ge 101, 3) := dk_162 0 101 (dk_at dksX6_fewest_2_1 9 rfl rfl)
theorem dX6_fewest_2_35 : decode cX6_fewest_2 35 = .ok (.iload_n 3, 1) := dk_29 (dk_at dksX6_fewest_2_1 12 rfl rfl)
theorem dX6_fewest_2_36 : decode cX6_fewest_2 36 = .ok (.iload_n 2, 1) := dk_28 (dk_at dksX6_fewest_2_1 13 rfl rfl)
theorem dX6_fewest_2_37 : decode cX6_fewest_2 37 = .ok (.if_icmp .ge 96, 3) := dk_162 0 96 (dk_at dksX6_fewest_2_1 14 rfl rfl)
theorem dX6_fewest_2_40 : decode cX6_fewest_2 40 = .ok (.aload_n 0, 1) := dk_42 (dk_at dksX6_fewest_2_1 17 rfl rfl)
theorem dX6_fewest_2_41 : decode cX6_fewest_2 41 = .ok (.iload 5, 2) := dk_21 5 (dk_at dksX6_fewest_2_1 18 rfl rfl)
theorem dX6_fewest_2_43 : decode cX6_fewest_2 43 = .ok (.iload_n 3, 1) := dk_29 (dk_at dksX6_fewest_2_1 20 rfl rfl)
theorem dX6_fewest_2_44 : decode cX6_fewest_2 44 = .ok (.iload_n 1, 1) := dk_27 (dk_at dksX6_fewest_2_1 21 rfl rfl)
theorem dX6_fewest_2_45 : decode cX6_fewest_2 45 = .ok (.iload_n 2, 1) := dk_28 (dk_at dksX6_fewest_2_1 22 rfl rfl)
theorem dX6_fewest_2_46 : decode cX6_fewest_2 46 = .ok (.invokevirtual 87, 3) := dk_182 0 87 (dk_at dksX6_fewest_2_2 0 rfl rfl)
theorem dX6_fewest_2_49 : decode cX6_fewest_2 49 = .ok (.ifCond .ne 6, 3) := dk_154 0 6 (dk_at dksX6_fewest_2_2 3 rfl rfl)
theorem dX6_fewest_2_52 : decode cX6_fewest_2 52 = .ok (.goto 75, 3) := dk_167 0 75 (dk_at dksX6_fewest_2_2 6 rfl rfl)
theorem dX6_fewest_2_55 : decode cX6_fewest_2 55 = .ok (.aload_n 0, 1) := dk_42 (dk_at dksX6_fewest_2_2 9 rfl rfl)
theorem dX6_fewest_2_56 : decode cX6_fewest_2 56 = .ok (.getfield 43, 3) := dk_180 0 43 (dk_at dksX6_fewest_2_2 10 rfl rfl)
theorem dX6_fewest_2_59 : decode cX6_fewest_2 59 = .ok (.iload_n 3, 1) := dk_29 (dk_at dksX6_fewest_2_2 13 rfl rfl)
theorem dX6_fewest_2_60 : decode cX6_fewest_2 60 = .ok (.aload_n 0, 1) := dk_42 (dk_at dksX6_fewest_2_2 14 rfl rfl)
theorem dX6_fewest_2_61 : decode cX6_fewest_2 61 = .ok (.getfield 46, 3) := dk_180 0 46 (dk_at dksX6_fewest_2_2 15 rfl rfl)
theorem dX6_fewest_2_64 : decode cX6_fewest_2 64 = .ok (.getfield 54, 3) := dk_180 0 54 (dk_at dksX6_fewest_2_2 18 rfl rfl)
theorem dX6_fewest_2_67 : decode cX6_fewest_2 67 = .ok (.iload 5, 2) := dk_21 5 (dk_at dksX6_fewest_2_2 21 rfl rfl)
theorem dX6_fewest_2_69 : decode cX6_fewest_2 69 = .ok (.aaload, 1) := dk_50 (dk_at dksX6_fewest_2_2 23 rfl rfl)
theorem dX6_fewest_2_70 : decode cX6_fewest_2 70 = .ok (.getfield 60, 3) := dk_180 0 60 (dk_at dksX6_fewest_2_3 0 rfl rfl)
theorem dX6_fewest_2_73 : decode cX6_fewest_2 73 = .ok (.arraylength, 1) := dk_190 (dk_at dksX6_fewest_2_3 3 rfl rfl)
theorem dX6_fewest_2_74 : decode cX6_fewest_2 74 = .ok (.iadd, 1) := dk_96 (dk_at dksX6_fewest_2_3 4 rfl rfl)
theorem dX6_fewest_2_75 : decode cX6_fewest_2 75 = .ok (.iaload, 1) := dk_46 (dk_at dksX6_fewest_2_3 5 rfl rfl)
theorem dX6_fewest_2_76 : decode cX6_fewest_2 76 = .ok (.istore 6, 2) := dk_54 6 (dk_at dksX6_fewest_2_3 6 rfl rfl)
theorem dX6_fewest_2_78 : decode cX6_fewest_2 78 = .ok (.iload 6, 2) := dk_21 6 (dk_at dksX6_fewest_2_3 8 rfl rfl)
theorem dX6_fewest_2_80 : decode cX6_fewest_2 80 = .ok (.ldc 220, 2) := dk_18 220 (dk_at dksX6_fewest_2_3 10 rfl rfl)
theorem dX6_fewest_2_82 : decode cX6_fewest_2 82 = .ok (.if_icmp .ge 45, 3) := dk_162 0 45 (dk_at dksX6_fewest_2_3 12 rfl rfl)
theorem dX6_fewest_2_85 : decode cX6_fewest_2 85 = .ok (.iload 4, 2) := dk_21 4 (dk_at dksX6_fewest_2_3 15 rfl rfl)
theorem dX6_fewest_2_87 : decode cX6_fewest_2 87 = .ok (.iload 6, 2) := dk_21 6 (dk_at dksX6_fewest_2_3 17 rfl rfl)
theorem dX6_fewest_2_89 : decode cX6_fewest_2 89 = .ok (.aload_n 0, 1) := dk_42 (dk_at dksX6_fewest_2_3 19 rfl rfl)
theorem dX6_fewest_2_90 : decode cX6_fewest_2 90 = .ok (.getfield 46, 3) := dk_180 0 46 (dk_at dksX6_fewest_2_3 20 rfl rfl)
theorem dX6_fewest_2_93 : decode cX6_fewest_2 93 = .ok (.getfield 54, 3) := dk_180 0 54 (dk_at dksX6_fewest_2_4 0 rfl rfl)
theorem dX6_fewest_2_96 : decode cX6_fewest_2 96 = .ok (.iload 5, 2) := dk_21 5 (dk_at dksX6_fewest_2_4 3 rfl rfl)
theorem dX6_fewest_2_98 : decode cX6_fewest_2 98 = .ok (.aaload, 1) := dk_50 (dk_at dksX6_fewest_2_4 5 rfl rfl)
theorem dX6_fewest_2_99 : decode cX6_fewest_2 99 = .ok (.getfield 104, 3) := dk_180 0 104 (dk_at dksX6_fewest_2_4 6 rfl rfl)
theorem dX6_fewest_2_102 : decode cX6_fewest_2 102 = .ok (.arraylength, 1) := dk_190 (dk_at dksX6_fewest_2_4 9 rfl rfl)
theorem dX6_fewest_2_103 : decode cX6_fewest_2 103 = .ok (.iadd, 1) := dk_96 (dk_at dksX6_fewest_2_4 10 rfl rfl)
theorem dX6_fewest_2_104 : decode cX6_fewest_2 104 = .ok (.aload_n 0, 1) := dk_42 (dk_at dksX6_fewest_2_4 11 rfl rfl)
theorem dX6_fewest_2_105 : decode cX6_fewest_2 105 = .ok (.getfield 74, 3) := dk_180 0 74 (dk_at dksX6_fewest_2_4 12 rfl rfl)
theorem dX6_fewest_2_108 : decode cX6_fewest_2 108 = .ok (.iload_n 3, 1) := dk_29 (dk_at dksX6_fewest_2_4 15 rfl rfl)
theorem dX6_fewest_2_109 : decode cX6_fewest_2 109 = .ok (.baload, 1) := dk_51 (dk_at dksX6_fewest_2_4 16 rfl rfl)
theorem dX6_fewest_2_110 : decode cX6_fewest_2 110 = .ok (.invokestatic 77, 3) := dk_184 0 77 (dk_at dksX6_fewest_2_4 17 rfl rfl)
theorem dX6_fewest_2_113 : decode cX6_fewest_2 113 = .ok (.ifCond .eq 7, 3) := dk_153 0 7 (dk_at dksX6_fewest_2_4 20 rfl rfl)
theorem dX6_fewest_2_116 : decode cX6_fewest_2 116 = .ok (.iconst 1, 1) := dk_4 (dk_at dksX6_fewest_2_4 23 rfl rfl)
theorem dX6_fewest_2_117 : decode cX6_fewest_2 117 = .ok (.goto 4, 3) := dk_167 0 4 (dk_at dksX6_fewest_2_5 0 rfl rfl)
theorem dX6_fewest_2_120 : decode cX6_fewest_2 120 = .ok (.iconst 0, 1) := dk_3 (dk_at dksX6_fewest_2_5 3 rfl rfl)
theorem dX6_fewest_2_121 : decode cX6_fewest_2 121 = .ok (.iadd, 1) := dk_96 (dk_at dksX6_fewest_2_5 4 rfl rfl)
theorem dX6_fewest_2_122 : decode cX6_fewest_2 122 = .ok (.invokestatic 221, 3) := dk_184 0 221 (dk_at dksX6_fewest_2_5 5 rfl rfl)
theorem dX6_fewest_2_125 : decode cX6_fewest_2 125 = .ok (.istore 4, 2) := dk_54 4 (dk_at dksX6_fewest_2_5 8 rfl rfl)
theorem dX6_fewest_2_127 : decode cX6_fewest_2 127 = .ok (.iinc 5 1, 3) := dk_132 5 1 (dk_at dksX6_fewest_2_5 10 rfl rfl)
theorem dX6_fewest_2_130 : decode cX6_fewest_2 130 = .ok (.goto (-107), 3) := dk_167 255 149 (dk_at dksX6_fewest_2_5 13 rfl rfl)
theorem dX6_fewest_2_133 : decode cX6_fewest_2 133 = .ok (.aload_n 0, 1) := dk_42 (dk_at dksX6_fewest_2_5 16 rfl rfl)
theorem dX6_fewest_2_134 : decode cX6_fewest_2 134 = .ok (.getfield 43, 3) := dk_180 0 43 (dk_at dksX6_fewest_2_5 17 rfl rfl)
theorem dX6_fewest_2_137 : decode cX6_fewest_2 137 = .ok (.iload_n 3, 1) := dk_29 (dk_at dksX6_fewest_2_5 20 rfl rfl)
theorem dX6_fewest_2_138 : decode cX6_fewest_2 138 = .ok (.iload 4, 2) := dk_21 4 (dk_at dksX6_fewest_2_5 21 rfl rfl)
theorem dX6_fewest_2_140 : decode cX6_fewest_2 140 = .ok (.iastore, 1) := dk_79 (dk_at dksX6_fewest_2_5 23 rfl rfl)
theorem dX6_fewest_2_141 : decode cX6_fewest_2 141 = .ok (.iinc 3 (-1), 3) := dk_132 3 255 (dk_at dksX6_fewest_2_6 0 rfl rfl)
theorem dX6_fewest_2_144 : decode cX6_fewest_2 144 = .ok (.goto (-142), 3) := dk_167 255 114 (dk_at dksX6_fewest_2_6 3 rfl rfl)
theorem dX6_fewest_2_147 : decode cX6_fewest_2 147 = .ok (.aload_n 0, 1) := dk_42 (dk_at dksX6_fewest_2_6 6 rfl rfl)
theorem dX6_fewest_2_148 : decode cX6_fewest_2 148 = .ok (.getfield 43, 3) := dk_180 0 43 (dk_at dksX6_fewest_2_6 7 rfl rfl)
theorem dX6_fewest_2_151 : decode cX6_fewest_2 151 = .ok (.iload_n 1, 1) := dk_27 (dk_at dksX6_fewest_2_6 10 rfl rfl)
theorem dX6_fewest_2_152 : decode cX6_fewest_2 152 = .ok (.iaload, 1) := dk_46 (dk_at dksX6_fewest_2_6 11 rfl rfl)
theorem dX6_fewest_2_153 : decode cX6_fewest_2 153 = .ok (.ireturn, 1) := dk_172 (dk_at dksX6_fewest_2_6 12 rfl rfl)
abbrev cX6_covers : ByteArray := prog_12_method_22_code
def yX6_covers : MethodName := ⟨RX6, "covers", "(I)I"⟩
def dkwX6_covers_3 : List UInt8 := [167, 255, 189, 28, 172]
abbrev dktX6_covers_3 : List UInt8 := dkwX6_covers_3 ++ []
def dkwX6_covers_2 : List UInt8 := [96, 61, 132, 5, 1, 167, 255, 225, 21, 4, 29, 160, 0, 9, 29, 4, 96, 167, 0, 5, 21, 4, 62]
abbrev dktX6_covers_2 : List UInt8 := dkwX6_covers_2 ++ dktX6_covers_3
def dkwX6_covers_1 : List UInt8 := [21, 4, 162, 0, 30, 28, 42, 27, 21, 5, 29, 21, 4, 182, 0, 87, 153, 0, 7, 4, 167, 0, 4, 3]
abbrev dktX6_covers_1 : List UInt8 := dkwX6_covers_1 ++ dktX6_covers_2
def dkwX6_covers_0 : List UInt8 := [3, 61, 3, 62, 29, 42, 180, 0, 112, 162, 0, 65, 42, 29, 182, 0, 116, 54, 4, 29, 54, 5, 21, 5]
abbrev dktX6_covers_0 : List UInt8 := dkwX6_covers_0 ++ dktX6_covers_1
theorem dksX6_covers_0 : cX6_covers.data.toList.drop 0 = dktX6_covers_0 := by decide +kernel
theorem dksX6_covers_1 : cX6_covers.data.toList.drop 24 = dktX6_covers_1 := dk_seg dksX6_covers_0 24 rfl rfl
theorem dksX6_covers_2 : cX6_covers.data.toList.drop 48 = dktX6_covers_2 := dk_seg dksX6_covers_1 24 rfl rfl
theorem dksX6_covers_3 : cX6_covers.data.toList.drop 71 = dktX6_covers_3 := dk_seg dksX6_covers_2 23 rfl rfl
theorem dX6_covers_0 : decode cX6_covers 0 = .ok (.iconst 0, 1) := dk_3 (dk_at dksX6_covers_0 0 rfl rfl)
theorem dX6_covers_1 : decode cX6_covers 1 = .ok (.istore_n 2, 1) := dk_61 (dk_at dksX6_covers_0 1 rfl rfl)
theorem dX6_covers_2 : decode cX6_covers 2 = .ok (.iconst 0, 1) := dk_3 (dk_at dksX6_covers_0 2 rfl rfl)
theorem dX6_covers_3 : decode cX6_covers 3 = .ok (.istore_n 3, 1) := dk_62 (dk_at dksX6_covers_0 3 rfl rfl)
theorem dX6_covers_4 : decode cX6_covers 4 = .ok (.iload_n 3, 1) := dk_29 (dk_at dksX6_covers_0 4 rfl rfl)
theorem dX6_covers_5 : decode cX6_covers 5 = .ok (.aload_n 0, 1) := dk_42 (dk_at dksX6_covers_0 5 rfl rfl)
theorem dX6_covers_6 : decode cX6_covers 6 = .ok (.getfield 112, 3) := dk_180 0 112 (dk_at dksX6_covers_0 6 rfl rfl)
theorem dX6_covers_9 : decode cX6_covers 9 = .ok (.if_icmp .ge 65, 3) := dk_162 0 65 (dk_at dksX6_covers_0 9 rfl rfl)
theorem dX6_covers_12 : decode cX6_covers 12 = .ok (.aload_n 0, 1) := dk_42 (dk_at dksX6_covers_0 12 rfl rfl)
theorem dX6_covers_13 : decode cX6_covers 13 = .ok (.iload_n 3, 1) := dk_29 (dk_at dksX6_covers_0 13 rfl rfl)
theorem dX6_covers_14 : decode cX6_covers 14 = .ok (.invokevirtual 116, 3) := dk_182 0 116 (dk_at dksX6_covers_0 14 rfl rfl)
theorem dX6_covers_17 : decode cX6_covers 17 = .ok (.istore 4, 2) := dk_54 4 (dk_at dksX6_covers_0 17 rfl rfl)
theorem dX6_covers_19 : decode cX6_covers 19 = .ok (.iload_n 3, 1) := dk_29 (dk_at dksX6_covers_0 19 rfl rfl)
theorem dX6_covers_20 : decode cX6_covers 20 = .ok (.istore 5, 2) := dk_54 5 (dk_at dksX6_covers_0 20 rfl rfl)
theorem dX6_covers_22 : decode cX6_covers 22 = .ok (.iload 5, 2) := dk_21 5 (dk_at dksX6_covers_0 22 rfl rfl)
theorem dX6_covers_24 : decode cX6_covers 24 = .ok (.iload 4, 2) := dk_21 4 (dk_at dksX6_covers_1 0 rfl rfl)
theorem dX6_covers_26 : decode cX6_covers 26 = .ok (.if_icmp .ge 30, 3) := dk_162 0 30 (dk_at dksX6_covers_1 2 rfl rfl)
theorem dX6_covers_29 : decode cX6_covers 29 = .ok (.iload_n 2, 1) := dk_28 (dk_at dksX6_covers_1 5 rfl rfl)
theorem dX6_covers_30 : decode cX6_covers 30 = .ok (.aload_n 0, 1) := dk_42 (dk_at dksX6_covers_1 6 rfl rfl)
theorem dX6_covers_31 : decode cX6_covers 31 = .ok (.iload_n 1, 1) := dk_27 (dk_at dksX6_covers_1 7 rfl rfl)
theorem dX6_covers_32 : decode cX6_covers 32 = .ok (.iload 5, 2) := dk_21 5 (dk_at dksX6_covers_1 8 rfl rfl)
theorem dX6_covers_34 : decode cX6_covers 34 = .ok (.iload_n 3, 1) := dk_29 (dk_at dksX6_covers_1 10 rfl rfl)
theorem dX6_covers_35 : decode cX6_covers 35 = .ok (.iload 4, 2) := dk_21 4 (dk_at dksX6_covers_1 11 rfl rfl)
theorem dX6_covers_37 : decode cX6_covers 37 = .ok (.invokevirtual 87, 3) := dk_182 0 87 (dk_at dksX6_covers_1 13 rfl rfl)
theorem dX6_covers_40 : decode cX6_covers 40 = .ok (.ifCond .eq 7, 3) := dk_153 0 7 (dk_at dksX6_covers_1 16 rfl rfl)
theorem dX6_covers_43 : decode cX6_covers 43 = .ok (.iconst 1, 1) := dk_4 (dk_at dksX6_covers_1 19 rfl rfl)
theorem dX6_covers_44 : decode cX6_covers 44 = .ok (.goto 4, 3) := dk_167 0 4 (dk_at dksX6_covers_1 20 rfl rfl)
theorem dX6_covers_47 : decode cX6_covers 47 = .ok (.iconst 0, 1) := dk_3 (dk_at dksX6_covers_1 23 rfl rfl)
theorem dX6_covers_48 : decode cX6_covers 48 = .ok (.iadd, 1) := dk_96 (dk_at dksX6_covers_2 0 rfl rfl)
theorem dX6_covers_49 : decode cX6_covers 49 = .ok (.istore_n 2, 1) := dk_61 (dk_at dksX6_covers_2 1 rfl rfl)
theorem dX6_covers_50 : decode cX6_covers 50 = .ok (.iinc 5 1, 3) := dk_132 5 1 (dk_at dksX6_covers_2 2 rfl rfl)
theorem dX6_covers_53 : decode cX6_covers 53 = .ok (.goto (-31), 3) := dk_167 255 225 (dk_at dksX6_covers_2 5 rfl rfl)
theorem dX6_covers_56 : decode cX6_covers 56 = .ok (.iload 4, 2) := dk_21 4 (dk_at dksX6_covers_2 8 rfl rfl)
theorem dX6_covers_58 : decode cX6_covers 58 = .ok (.iload_n 3, 1) := dk_29 (dk_at dksX6_covers_2 10 rfl rfl)
theorem dX6_covers_59 : decode cX6_covers 59 = .ok (.if_icmp .ne 9, 3) := dk_160 0 9 (dk_at dksX6_covers_2 11 rfl rfl)
theorem dX6_covers_62 : decode cX6_covers 62 = .ok (.iload_n 3, 1) := dk_29 (dk_at dksX6_covers_2 14 rfl rfl)
theorem dX6_covers_63 : decode cX6_covers 63 = .ok (.iconst 1, 1) := dk_4 (dk_at dksX6_covers_2 15 rfl rfl)
theorem dX6_covers_64 : decode cX6_covers 64 = .ok (.iadd, 1) := dk_96 (dk_at dksX6_covers_2 16 rfl rfl)
theorem dX6_covers_65 : decode cX6_covers 65 = .ok (.goto 5, 3) := dk_167 0 5 (dk_at dksX6_covers_2 17 rfl rfl)
theorem dX6_covers_68 : decode cX6_covers 68 = .ok (.iload 4, 2) := dk_21 4 (dk_at dksX6_covers_2 20 rfl rfl)
theorem dX6_covers_70 : decode cX6_covers 70 = .ok (.istore_n 3, 1) := dk_62 (dk_at dksX6_covers_2 22 rfl rfl)
theorem dX6_covers_71 : decode cX6_covers 71 = .ok (.goto (-67), 3) := dk_167 255 189 (dk_at dksX6_covers_3 0 rfl rfl)
theorem dX6_covers_74 : decode cX6_covers 74 = .ok (.iload_n 2, 1) := dk_28 (dk_at dksX6_covers_3 3 rfl rfl)
theorem dX6_covers_75 : decode cX6_covers 75 = .ok (.ireturn, 1) := dk_172 (dk_at dksX6_covers_3 4 rfl rfl)
theorem q128 : (Jvm.Cond.initialized "RaisedPress$Setter") ∈ lw_all := lw_g (lw_at lw_m1 9 rfl) rfl
theorem q274 : (Jvm.Cond.fieldLinkNest "RaisedPress$Setter" (54 : Nat) "RaisedPress$Table" "rules" "[LRaisedPress$Rule;" "RaisedPress") ∈ lw_tbl := lw_at lw_m1 155 rfl
theorem q277 : (Jvm.Cond.fieldLinkNest "RaisedPress$Setter" (84 : Nat) "RaisedPress$Table" "size" "I" "RaisedPress") ∈ lw_tbl := lw_at lw_m1 158 rfl
theorem q282 : (Jvm.Cond.fieldLinkNest "RaisedPress$Setter" (133 : Nat) "RaisedPress$Table" "capital" "I" "RaisedPress") ∈ lw_tbl := lw_at lw_m1 163 rfl
theorem q286 : (Jvm.Cond.fieldLinkNest "RaisedPress$Setter" (142 : Nat) "RaisedPress$Table" "number" "I" "RaisedPress") ∈ lw_tbl := lw_at lw_m1 167 rfl
theorem q290 : (Jvm.Cond.fieldLinkNest "RaisedPress$Setter" (182 : Nat) "RaisedPress$Table" "hyphen" "I" "RaisedPress") ∈ lw_tbl := lw_at lw_m1 171 rfl
theorem q294 : (Jvm.Cond.fieldLinkNest "RaisedPress$Setter" (173 : Nat) "RaisedPress$Table" "line" "I" "RaisedPress") ∈ lw_tbl := lw_at lw_m1 175 rfl
theorem q329 : (Jvm.Cond.instantiable "RaisedPress$Setter" (22 : Nat)) ∈ lw_all := lw_g (lw_at lw_m1 210 rfl) rfl
theorem q331 : (Jvm.Cond.instanceMethod ({ cls := "RaisedPress$Setter", name := "<init>", desc := "(LRaisedPress;LRaisedPress$Table;)V" } : Jvm.MethodName)) ∈ lw_all := lw_g (lw_at lw_m1 212 rfl) rfl
theorem q332 : (Jvm.Cond.code ({ cls := "RaisedPress$Setter", name := "<init>", desc := "(LRaisedPress;LRaisedPress$Table;)V" } : Jvm.MethodName) prog_12_method_1_code (3 : Nat) (Option.none : Option Jvm.ClassFile.FieldType)) ∈ lw_all := lw_g (lw_at lw_m1 213 rfl) rfl
theorem q333 : (Jvm.Cond.methodLink "RaisedPress$Setter" (9 : Nat) ({ cls := "java/lang/Object", name := "<init>", desc := "()V" } : Jvm.MethodName)) ∈ lw_all := lw_g (lw_at lw_m1 214 rfl) rfl
theorem q334 : (Jvm.Cond.fieldLink "RaisedPress$Setter" (46 : Nat) "RaisedPress$Setter" "table" "LRaisedPress$Table;") ∈ lw_all := lw_g (lw_at lw_m1 215 rfl) rfl
theorem q336 : (Jvm.Cond.fieldLink "RaisedPress$Setter" (50 : Nat) "RaisedPress$Setter" "dropped" "I") ∈ lw_all := lw_g (lw_at lw_m1 217 rfl) rfl
theorem q338 : (Jvm.Cond.fieldLink "RaisedPress$Setter" (74 : Nat) "RaisedPress$Setter" "bytes" "[B") ∈ lw_all := lw_g (lw_at lw_m1 219 rfl) rfl
theorem q340 : (Jvm.Cond.fieldLink "RaisedPress$Setter" (112 : Nat) "RaisedPress$Setter" "size" "I") ∈ lw_all := lw_g (lw_at lw_m1 221 rfl) rfl
theorem q342 : (Jvm.Cond.fieldLink "RaisedPress$Setter" (101 : Nat) "RaisedPress$Setter" "cells" "I") ∈ lw_all := lw_g (lw_at lw_m1 223 rfl) rfl
theorem q344 : (Jvm.Cond.fieldLink "RaisedPress$Setter" (151 : Nat) "RaisedPress$Setter" "pieces" "I") ∈ lw_all := lw_g (lw_at lw_m1 225 rfl) rfl
theorem q345 : (Jvm.Cond.fieldLink "RaisedPress$Setter" (106 : Nat) "RaisedPress$Setter" "all" "I") ∈ lw_all := lw_g (lw_at lw_m1 226 rfl) rfl
theorem q346 : (Jvm.Cond.fieldLink "RaisedPress$Setter" (109 : Nat) "RaisedPress$Setter" "lettered" "I") ∈ lw_all := lw_g (lw_at lw_m1 227 rfl) rfl
theorem q347 : (Jvm.Cond.fieldLink "RaisedPress$Setter" (15 : Nat) "RaisedPress$Setter" "cell" "[I") ∈ lw_all := lw_g (lw_at lw_m1 228 rfl) rfl
theorem q349 : (Jvm.Cond.fieldLink "RaisedPress$Setter" (19 : Nat) "RaisedPress$Setter" "pieceAt" "[I") ∈ lw_all := lw_g (lw_at lw_m1 230 rfl) rfl
theorem q350 : (Jvm.Cond.fieldLink "RaisedPress$Setter" (22 : Nat) "RaisedPress$Setter" "pieceMany" "[I") ∈ lw_all := lw_g (lw_at lw_m1 231 rfl) rfl
theorem q351 : (Jvm.Cond.fieldLink "RaisedPress$Setter" (25 : Nat) "RaisedPress$Setter" "pieceLine" "[I") ∈ lw_all := lw_g (lw_at lw_m1 232 rfl) rfl
theorem q352 : (Jvm.Cond.fieldLink "RaisedPress$Setter" (28 : Nat) "RaisedPress$Setter" "pieceEnd" "[I") ∈ lw_all := lw_g (lw_at lw_m1 233 rfl) rfl
theorem q353 : (Jvm.Cond.fieldLink "RaisedPress$Setter" (31 : Nat) "RaisedPress$Setter" "cellBy" "[I") ∈ lw_all := lw_g (lw_at lw_m1 234 rfl) rfl
theorem q354 : (Jvm.Cond.fieldLink "RaisedPress$Setter" (34 : Nat) "RaisedPress$Setter" "used" "[I") ∈ lw_all := lw_g (lw_at lw_m1 235 rfl) rfl
theorem q355 : (Jvm.Cond.fieldLink "RaisedPress$Setter" (37 : Nat) "RaisedPress$Setter" "laid" "[I") ∈ lw_all := lw_g (lw_at lw_m1 236 rfl) rfl
theorem q356 : (Jvm.Cond.fieldLink "RaisedPress$Setter" (40 : Nat) "RaisedPress$Setter" "lineAt" "[I") ∈ lw_all := lw_g (lw_at lw_m1 237 rfl) rfl
theorem q357 : (Jvm.Cond.fieldLink "RaisedPress$Setter" (163 : Nat) "RaisedPress$Setter" "laidMany" "I") ∈ lw_all := lw_g (lw_at lw_m1 238 rfl) rfl
theorem q358 : (Jvm.Cond.fieldLink "RaisedPress$Setter" (166 : Nat) "RaisedPress$Setter" "lines" "I") ∈ lw_all := lw_g (lw_at lw_m1 239 rfl) rfl
theorem q359 : (Jvm.Cond.fieldLink "RaisedPress$Setter" (185 : Nat) "RaisedPress$Setter" "hyphens" "I") ∈ lw_all := lw_g (lw_at lw_m2 0 rfl) rfl
theorem q360 : (Jvm.Cond.fieldLink "RaisedPress$Setter" (43 : Nat) "RaisedPress$Setter" "fewest" "[I") ∈ lw_all := lw_g (lw_at lw_m2 1 rfl) rfl
theorem q361 : (Jvm.Cond.fieldLink "RaisedPress$Setter" (3 : Nat) "RaisedPress$Setter" "this$0" "LRaisedPress;") ∈ lw_all := lw_g (lw_at lw_m2 2 rfl) rfl
theorem q362 : (Jvm.Cond.laysFinal "RaisedPress$Setter" "RaisedPress$Setter" "table" "LRaisedPress$Table;") ∈ lw_all := lw_g (lw_at lw_m2 3 rfl) rfl
theorem q363 : (Jvm.Cond.soleField "RaisedPress$Setter" "table") ∈ lw_all := lw_g (lw_at lw_m2 4 rfl) rfl
theorem q364 : (Jvm.Cond.lays "RaisedPress$Setter" "RaisedPress$Setter" "dropped" "I") ∈ lw_all := lw_g (lw_at lw_m2 5 rfl) rfl
theorem q365 : (Jvm.Cond.soleField "RaisedPress$Setter" "dropped") ∈ lw_all := lw_g (lw_at lw_m2 6 rfl) rfl
theorem q366 : (Jvm.Cond.lays "RaisedPress$Setter" "RaisedPress$Setter" "bytes" "[B") ∈ lw_all := lw_g (lw_at lw_m2 7 rfl) rfl
theorem q367 : (Jvm.Cond.soleField "RaisedPress$Setter" "bytes") ∈ lw_all := lw_g (lw_at lw_m2 8 rfl) rfl
theorem q368 : (Jvm.Cond.lays "RaisedPress$Setter" "RaisedPress$Setter" "size" "I") ∈ lw_all := lw_g (lw_at lw_m2 9 rfl) rfl
theorem q369 : (Jvm.Cond.soleField "RaisedPress$Setter" "size") ∈ lw_all := lw_g (lw_at lw_m2 10 rfl) rfl
theorem q370 : (Jvm.Cond.lays "RaisedPress$Setter" "RaisedPress$Setter" "cells" "I") ∈ lw_all := lw_g (lw_at lw_m2 11 rfl) rfl
theorem q371 : (Jvm.Cond.soleField "RaisedPress$Setter" "cells") ∈ lw_all := lw_g (lw_at lw_m2 12 rfl) rfl
theorem q372 : (Jvm.Cond.lays "RaisedPress$Setter" "RaisedPress$Setter" "pieces" "I") ∈ lw_all := lw_g (lw_at lw_m2 13 rfl) rfl
theorem q373 : (Jvm.Cond.soleField "RaisedPress$Setter" "pieces") ∈ lw_all := lw_g (lw_at lw_m2 14 rfl) rfl
theorem q374 : (Jvm.Cond.lays "RaisedPress$Setter" "RaisedPress$Setter" "all" "I") ∈ lw_all := lw_g (lw_at lw_m2 15 rfl) rfl
theorem q375 : (Jvm.Cond.soleField "RaisedPress$Setter" "all") ∈ lw_all := lw_g (lw_at lw_m2 16 rfl) rfl
theorem q376 : (Jvm.Cond.lays "RaisedPress$Setter" "RaisedPress$Setter" "lettered" "I") ∈ lw_all := lw_g (lw_at lw_m2 17 rfl) rfl
theorem q377 : (Jvm.Cond.soleField "RaisedPress$Setter" "lettered") ∈ lw_all := lw_g (lw_at lw_m2 18 rfl) rfl
theorem q378 : (Jvm.Cond.laysFinal "RaisedPress$Setter" "RaisedPress$Setter" "cell" "[I") ∈ lw_all := lw_g (lw_at lw_m2 19 rfl) rfl
theorem q379 : (Jvm.Cond.soleField "RaisedPress$Setter" "cell") ∈ lw_all := lw_g (lw_at lw_m2 20 rfl) rfl
theorem q380 : (Jvm.Cond.laysFinal "RaisedPress$Setter" "RaisedPress$Setter" "pieceAt" "[I") ∈ lw_all := lw_g (lw_at lw_m2 21 rfl) rfl
theorem q381 : (Jvm.Cond.soleField "RaisedPress$Setter" "pieceAt") ∈ lw_all := lw_g (lw_at lw_m2 22 rfl) rfl
theorem q382 : (Jvm.Cond.laysFinal "RaisedPress$Setter" "RaisedPress$Setter" "pieceMany" "[I") ∈ lw_all := lw_g (lw_at lw_m2 23 rfl) rfl
theorem q383 : (Jvm.Cond.soleField "RaisedPress$Setter" "pieceMany") ∈ lw_all := lw_g (lw_at lw_m2 24 rfl) rfl
theorem q384 : (Jvm.Cond.laysFinal "RaisedPress$Setter" "RaisedPress$Setter" "pieceLine" "[I") ∈ lw_all := lw_g (lw_at lw_m2 25 rfl) rfl
theorem q385 : (Jvm.Cond.soleField "RaisedPress$Setter" "pieceLine") ∈ lw_all := lw_g (lw_at lw_m2 26 rfl) rfl
theorem q386 : (Jvm.Cond.laysFinal "RaisedPress$Setter" "RaisedPress$Setter" "pieceEnd" "[I") ∈ lw_all := lw_g (lw_at lw_m2 27 rfl) rfl
theorem q387 : (Jvm.Cond.soleField "RaisedPress$Setter" "pieceEnd") ∈ lw_all := lw_g (lw_at lw_m2 28 rfl) rfl
theorem q388 : (Jvm.Cond.laysFinal "RaisedPress$Setter" "RaisedPress$Setter" "cellBy" "[I") ∈ lw_all := lw_g (lw_at lw_m2 29 rfl) rfl
theorem q389 : (Jvm.Cond.soleField "RaisedPress$Setter" "cellBy") ∈ lw_all := lw_g (lw_at lw_m2 30 rfl) rfl
theorem q390 : (Jvm.Cond.laysFinal "RaisedPress$Setter" "RaisedPress$Setter" "used" "[I") ∈ lw_all := lw_g (lw_at lw_m2 31 rfl) rfl
theorem q391 : (Jvm.Cond.soleField "RaisedPress$Setter" "used") ∈ lw_all := lw_g (lw_at lw_m2 32 rfl) rfl
theorem q392 : (Jvm.Cond.laysFinal "RaisedPress$Setter" "RaisedPress$Setter" "laid" "[I") ∈ lw_all := lw_g (lw_at lw_m2 33 rfl) rfl
theorem q393 : (Jvm.Cond.soleField "RaisedPress$Setter" "laid") ∈ lw_all := lw_g (lw_at lw_m2 34 rfl) rfl
theorem q394 : (Jvm.Cond.laysFinal "RaisedPress$Setter" "RaisedPress$Setter" "lineAt" "[I") ∈ lw_all := lw_g (lw_at lw_m2 35 rfl) rfl
theorem q395 : (Jvm.Cond.soleField "RaisedPress$Setter" "lineAt") ∈ lw_all := lw_g (lw_at lw_m2 36 rfl) rfl
theorem q396 : (Jvm.Cond.lays "RaisedPress$Setter" "RaisedPress$Setter" "laidMany" "I") ∈ lw_all := lw_g (lw_at lw_m2 37 rfl) rfl
theorem q397 : (Jvm.Cond.soleField "RaisedPress$Setter" "laidMany") ∈ lw_all := lw_g (lw_at lw_m2 38 rfl) rfl
theorem q398 : (Jvm.Cond.lays "RaisedPress$Setter" "RaisedPress$Setter" "lines" "I") ∈ lw_all := lw_g (lw_at lw_m2 39 rfl) rfl
theorem q399 : (Jvm.Cond.soleField "RaisedPress$Setter" "lines") ∈ lw_all := lw_g (lw_at lw_m2 40 rfl) rfl
theorem q400 : (Jvm.Cond.lays "RaisedPress$Setter" "RaisedPress$Setter" "hyphens" "I") ∈ lw_all := lw_g (lw_at lw_m2 41 rfl) rfl
theorem q401 : (Jvm.Cond.soleField "RaisedPress$Setter" "hyphens") ∈ lw_all := lw_g (lw_at lw_m2 42 rfl) rfl
theorem q402 : (Jvm.Cond.laysFinal "RaisedPress$Setter" "RaisedPress$Setter" "fewest" "[I") ∈ lw_all := lw_g (lw_at lw_m2 43 rfl) rfl
theorem q403 : (Jvm.Cond.soleField "RaisedPress$Setter" "fewest") ∈ lw_all := lw_g (lw_at lw_m2 44 rfl) rfl
theorem q404 : (Jvm.Cond.laysFinal "RaisedPress$Setter" "RaisedPress$Setter" "this$0" "LRaisedPress;") ∈ lw_all := lw_g (lw_at lw_m2 45 rfl) rfl
theorem q405 : (Jvm.Cond.soleField "RaisedPress$Setter" "this$0") ∈ lw_all := lw_g (lw_at lw_m2 46 rfl) rfl
theorem q406 : (Jvm.Cond.superclass "RaisedPress$Setter" "java/lang/Object") ∈ lw_all := lw_g (lw_at lw_m2 47 rfl) rfl
theorem q410 : (Jvm.Cond.fieldLinkNest "RaisedPress$Setter" (123 : Nat) "RaisedPress" "bad" "LRaisedPress$Bad;" "RaisedPress") ∈ lw_tbl := lw_at lw_m2 51 rfl
theorem q773 : (Jvm.Cond.fieldLink "RaisedPress$Setter" (60 : Nat) "RaisedPress$Rule" "letters" "[B") ∈ lw_all := lw_g (lw_at lw_m3 174 rfl) rfl
theorem q776 : (Jvm.Cond.fieldLink "RaisedPress$Setter" (104 : Nat) "RaisedPress$Rule" "cells" "[I") ∈ lw_all := lw_g (lw_at lw_m3 177 rfl) rfl
theorem q884 : (Jvm.Cond.instanceMethod ({ cls := "RaisedPress$Setter", name := "all", desc := "([BII)V" } : Jvm.MethodName)) ∈ lw_all := lw_g (lw_at lw_m4 45 rfl) rfl
theorem q885 : (Jvm.Cond.selects "RaisedPress$Setter" ({ cls := "RaisedPress$Setter", name := "all", desc := "([BII)V" } : Jvm.MethodName) ({ cls := "RaisedPress$Setter", name := "all", desc := "([BII)V" } : Jvm.MethodName)) ∈ lw_all := lw_g (lw_at lw_m4 46 rfl) rfl
theorem q886 : (Jvm.Cond.code ({ cls := "RaisedPress$Setter", name := "all", desc := "([BII)V" } : Jvm.MethodName) prog_12_method_13_code (6 : Nat) (Option.none : Option Jvm.ClassFile.FieldType)) ∈ lw_all := lw_g (lw_at lw_m4 47 rfl) rfl
theorem q887 : (Jvm.Cond.methodLinkNest "RaisedPress$Setter" (154 : Nat) ({ cls := "RaisedPress", name := "isBlank", desc := "(I)Z" } : Jvm.MethodName) "RaisedPress") ∈ lw_tbl := lw_at lw_m4 48 rfl
theorem q888 : (Jvm.Cond.methodLink "RaisedPress$Setter" (136 : Nat) ({ cls := "RaisedPress$Setter", name := "sets", desc := "(I)V" } : Jvm.MethodName)) ∈ lw_all := lw_g (lw_at lw_m4 49 rfl) rfl
theorem q889 : (Jvm.Cond.privateMethod ({ cls := "RaisedPress$Setter", name := "sets", desc := "(I)V" } : Jvm.MethodName)) ∈ lw_tbl := lw_at lw_m4 50 rfl
theorem q890 : (Jvm.Cond.instanceMethod ({ cls := "RaisedPress$Setter", name := "sets", desc := "(I)V" } : Jvm.MethodName)) ∈ lw_all := lw_g (lw_at lw_m4 51 rfl) rfl
theorem q891 : (Jvm.Cond.code ({ cls := "RaisedPress$Setter", name := "sets", desc := "(I)V" } : Jvm.MethodName) prog_12_method_7_code (2 : Nat) (Option.none : Option Jvm.ClassFile.FieldType)) ∈ lw_all := lw_g (lw_at lw_m4 52 rfl) rfl
theorem q892 : (Jvm.Cond.methodLink "RaisedPress$Setter" (97 : Nat) ({ cls := "RaisedPress$Setter", name := "sets", desc := "(II)V" } : Jvm.MethodName)) ∈ lw_all := lw_g (lw_at lw_m4 53 rfl) rfl
theorem q893 : (Jvm.Cond.privateMethod ({ cls := "RaisedPress$Setter", name := "sets", desc := "(II)V" } : Jvm.MethodName)) ∈ lw_tbl := lw_at lw_m4 54 rfl
theorem q894 : (Jvm.Cond.instanceMethod ({ cls := "RaisedPress$Setter", name := "sets", desc := "(II)V" } : Jvm.MethodName)) ∈ lw_all := lw_g (lw_at lw_m4 55 rfl) rfl
theorem q895 : (Jvm.Cond.code ({ cls := "RaisedPress$Setter", name := "sets", desc := "(II)V" } : Jvm.MethodName) prog_12_method_8_code (3 : Nat) (Option.none : Option Jvm.ClassFile.FieldType)) ∈ lw_all := lw_g (lw_at lw_m4 56 rfl) rfl
theorem q896 : (Jvm.Cond.methodLinkNest "RaisedPress$Setter" (113 : Nat) ({ cls := "RaisedPress", name := "isLetter", desc := "(I)Z" } : Jvm.MethodName) "RaisedPress") ∈ lw_tbl := lw_at lw_m4 57 rfl
theorem q903 : (Jvm.Cond.methodLink "RaisedPress$Setter" (157 : Nat) ({ cls := "RaisedPress$Setter", name := "word", desc := "(I)I" } : Jvm.MethodName)) ∈ lw_all := lw_g (lw_at lw_m4 64 rfl) rfl
theorem q904 : (Jvm.Cond.privateMethod ({ cls := "RaisedPress$Setter", name := "word", desc := "(I)I" } : Jvm.MethodName)) ∈ lw_tbl := lw_at lw_m4 65 rfl
theorem q905 : (Jvm.Cond.instanceMethod ({ cls := "RaisedPress$Setter", name := "word", desc := "(I)I" } : Jvm.MethodName)) ∈ lw_all := lw_g (lw_at lw_m4 66 rfl) rfl
theorem q906 : (Jvm.Cond.code ({ cls := "RaisedPress$Setter", name := "word", desc := "(I)I" } : Jvm.MethodName) prog_12_method_11_code (5 : Nat) (Option.some Jvm.ClassFile.FieldType.int)) ∈ lw_all := lw_g (lw_at lw_m4 67 rfl) rfl
theorem q907 : (Jvm.Cond.methodLink "RaisedPress$Setter" (116 : Nat) ({ cls := "RaisedPress$Setter", name := "wordEnd", desc := "(I)I" } : Jvm.MethodName)) ∈ lw_all := lw_g (lw_at lw_m4 68 rfl) rfl
theorem q908 : (Jvm.Cond.instanceMethod ({ cls := "RaisedPress$Setter", name := "wordEnd", desc := "(I)I" } : Jvm.MethodName)) ∈ lw_all := lw_g (lw_at lw_m4 69 rfl) rfl
theorem q909 : (Jvm.Cond.selects "RaisedPress$Setter" ({ cls := "RaisedPress$Setter", name := "wordEnd", desc := "(I)I" } : Jvm.MethodName) ({ cls := "RaisedPress$Setter", name := "wordEnd", desc := "(I)I" } : Jvm.MethodName)) ∈ lw_all := lw_g (lw_at lw_m4 70 rfl) rfl
theorem q910 : (Jvm.Cond.code ({ cls := "RaisedPress$Setter", name := "wordEnd", desc := "(I)I" } : Jvm.MethodName) prog_12_method_10_code (3 : Nat) (Option.some Jvm.ClassFile.FieldType.int)) ∈ lw_all := lw_g (lw_at lw_m4 71 rfl) rfl
theorem q911 : (Jvm.Cond.methodLink "RaisedPress$Setter" (119 : Nat) ({ cls := "RaisedPress$Setter", name := "taken", desc := "(III)I" } : Jvm.MethodName)) ∈ lw_all := lw_g (lw_at lw_m4 72 rfl) rfl
theorem q912 : (Jvm.Cond.instanceMethod ({ cls := "RaisedPress$Setter", name := "taken", desc := "(III)I" } : Jvm.MethodName)) ∈ lw_all := lw_g (lw_at lw_m4 73 rfl) rfl
theorem q913 : (Jvm.Cond.selects "RaisedPress$Setter" ({ cls := "RaisedPress$Setter", name := "taken", desc := "(III)I" } : Jvm.MethodName) ({ cls := "RaisedPress$Setter", name := "taken", desc := "(III)I" } : Jvm.MethodName)) ∈ lw_all := lw_g (lw_at lw_m4 74 rfl) rfl
theorem q914 : (Jvm.Cond.code ({ cls := "RaisedPress$Setter", name := "taken", desc := "(III)I" } : Jvm.MethodName) prog_12_method_4_code (6 : Nat) (Option.some Jvm.ClassFile.FieldType.int)) ∈ lw_all := lw_g (lw_at lw_m4 75 rfl) rfl
theorem q915 : (Jvm.Cond.methodLink "RaisedPress$Setter" (87 : Nat) ({ cls := "RaisedPress$Setter", name := "stands", desc := "(IIII)Z" } : Jvm.MethodName)) ∈ lw_all := lw_g (lw_at lw_m4 76 rfl) rfl
theorem q916 : (Jvm.Cond.instanceMethod ({ cls := "RaisedPress$Setter", name := "stands", desc := "(IIII)Z" } : Jvm.MethodName)) ∈ lw_all := lw_g (lw_at lw_m4 77 rfl) rfl
theorem q917 : (Jvm.Cond.selects "RaisedPress$Setter" ({ cls := "RaisedPress$Setter", name := "stands", desc := "(IIII)Z" } : Jvm.MethodName) ({ cls := "RaisedPress$Setter", name := "stands", desc := "(IIII)Z" } : Jvm.MethodName)) ∈ lw_all := lw_g (lw_at lw_m4 78 rfl) rfl
theorem q918 : (Jvm.Cond.code ({ cls := "RaisedPress$Setter", name := "stands", desc := "(IIII)Z" } : Jvm.MethodName) prog_12_method_3_code (8 : Nat) (Option.some Jvm.ClassFile.FieldType.boolean)) ∈ lw_all := lw_g (lw_at lw_m4 79 rfl) rfl
theorem q919 : (Jvm.Cond.methodLink "RaisedPress$Setter" (66 : Nat) ({ cls := "RaisedPress$Setter", name := "isThere", desc := "(I)Z" } : Jvm.MethodName)) ∈ lw_all := lw_g (lw_at lw_m4 80 rfl) rfl
theorem q920 : (Jvm.Cond.privateMethod ({ cls := "RaisedPress$Setter", name := "isThere", desc := "(I)Z" } : Jvm.MethodName)) ∈ lw_tbl := lw_at lw_m4 81 rfl
theorem q921 : (Jvm.Cond.instanceMethod ({ cls := "RaisedPress$Setter", name := "isThere", desc := "(I)Z" } : Jvm.MethodName)) ∈ lw_all := lw_g (lw_at lw_m4 82 rfl) rfl
theorem q922 : (Jvm.Cond.code ({ cls := "RaisedPress$Setter", name := "isThere", desc := "(I)Z" } : Jvm.MethodName) prog_12_method_2_code (2 : Nat) (Option.some Jvm.ClassFile.FieldType.boolean)) ∈ lw_all := lw_g (lw_at lw_m4 83 rfl) rfl
theorem q923 : (Jvm.Cond.methodLink "RaisedPress$Setter" (70 : Nat) ({ cls := "RaisedPress$Rule", name := "may", desc := "(ZZ)Z" } : Jvm.MethodName)) ∈ lw_all := lw_g (lw_at lw_m4 84 rfl) rfl
theorem q941 : (Jvm.Cond.methodLinkNest "RaisedPress$Setter" (77 : Nat) ({ cls := "RaisedPress", name := "isGreat", desc := "(I)Z" } : Jvm.MethodName) "RaisedPress") ∈ lw_tbl := lw_at lw_m4 102 rfl
theorem q942 : (Jvm.Cond.methodLinkNest "RaisedPress$Setter" (80 : Nat) ({ cls := "RaisedPress", name := "small", desc := "(I)I" } : Jvm.MethodName) "RaisedPress") ∈ lw_tbl := lw_at lw_m4 103 rfl
theorem q945 : (Jvm.Cond.methodLink "RaisedPress$Setter" (127 : Nat) ({ cls := "RaisedPress$Bad", name := "at", desc := "(II)LRaisedPress$Bad;" } : Jvm.MethodName)) ∈ lw_all := lw_g (lw_at lw_m4 106 rfl) rfl
theorem q946 : (Jvm.Cond.methodLink "RaisedPress$Setter" (139 : Nat) ({ cls := "RaisedPress$Setter", name := "sets", desc := "(IZ)V" } : Jvm.MethodName)) ∈ lw_all := lw_g (lw_at lw_m4 107 rfl) rfl
theorem q947 : (Jvm.Cond.privateMethod ({ cls := "RaisedPress$Setter", name := "sets", desc := "(IZ)V" } : Jvm.MethodName)) ∈ lw_tbl := lw_at lw_m4 108 rfl
theorem q948 : (Jvm.Cond.instanceMethod ({ cls := "RaisedPress$Setter", name := "sets", desc := "(IZ)V" } : Jvm.MethodName)) ∈ lw_all := lw_g (lw_at lw_m4 109 rfl) rfl
theorem q949 : (Jvm.Cond.code ({ cls := "RaisedPress$Setter", name := "sets", desc := "(IZ)V" } : Jvm.MethodName) prog_12_method_9_code (5 : Nat) (Option.none : Option Jvm.ClassFile.FieldType)) ∈ lw_all := lw_g (lw_at lw_m4 110 rfl) rfl
theorem q950 : (Jvm.Cond.methodLinkNest "RaisedPress$Setter" (145 : Nat) ({ cls := "RaisedPress", name := "isFigure", desc := "(I)Z" } : Jvm.MethodName) "RaisedPress") ∈ lw_tbl := lw_at lw_m4 111 rfl
theorem q951 : (Jvm.Cond.methodLink "RaisedPress$Setter" (160 : Nat) ({ cls := "RaisedPress$Setter", name := "figure", desc := "(I)I" } : Jvm.MethodName)) ∈ lw_all := lw_g (lw_at lw_m4 112 rfl) rfl
theorem q952 : (Jvm.Cond.privateMethod ({ cls := "RaisedPress$Setter", name := "figure", desc := "(I)I" } : Jvm.MethodName)) ∈ lw_tbl := lw_at lw_m4 113 rfl
theorem q953 : (Jvm.Cond.instanceMethod ({ cls := "RaisedPress$Setter", name := "figure", desc := "(I)I" } : Jvm.MethodName)) ∈ lw_all := lw_g (lw_at lw_m4 114 rfl) rfl
theorem q954 : (Jvm.Cond.code ({ cls := "RaisedPress$Setter", name := "figure", desc := "(I)I" } : Jvm.MethodName) prog_12_method_12_code (4 : Nat) (Option.some Jvm.ClassFile.FieldType.int)) ∈ lw_all := lw_g (lw_at lw_m4 115 rfl) rfl
theorem q955 : (Jvm.Cond.methodLink "RaisedPress$Setter" (148 : Nat) ({ cls := "RaisedPress$Setter", name := "digitRule", desc := "(I)I" } : Jvm.MethodName)) ∈ lw_all := lw_g (lw_at lw_m4 116 rfl) rfl
theorem q956 : (Jvm.Cond.instanceMethod ({ cls := "RaisedPress$Setter", name := "digitRule", desc := "(I)I" } : Jvm.MethodName)) ∈ lw_all := lw_g (lw_at lw_m4 117 rfl) rfl
theorem q957 : (Jvm.Cond.selects "RaisedPress$Setter" ({ cls := "RaisedPress$Setter", name := "digitRule", desc := "(I)I" } : Jvm.MethodName) ({ cls := "RaisedPress$Setter", name := "digitRule", desc := "(I)I" } : Jvm.MethodName)) ∈ lw_all := lw_g (lw_at lw_m4 118 rfl) rfl
theorem q958 : (Jvm.Cond.code ({ cls := "RaisedPress$Setter", name := "digitRule", desc := "(I)I" } : Jvm.MethodName) prog_12_method_6_code (2 : Nat) (Option.some Jvm.ClassFile.FieldType.int)) ∈ lw_all := lw_g (lw_at lw_m4 119 rfl) rfl
theorem q959 : (Jvm.Cond.methodLink "RaisedPress$Setter" (94 : Nat) ({ cls := "RaisedPress$Setter", name := "justFor", desc := "(I)I" } : Jvm.MethodName)) ∈ lw_all := lw_g (lw_at lw_m4 120 rfl) rfl
theorem q960 : (Jvm.Cond.instanceMethod ({ cls := "RaisedPress$Setter", name := "justFor", desc := "(I)I" } : Jvm.MethodName)) ∈ lw_all := lw_g (lw_at lw_m4 121 rfl) rfl
theorem q961 : (Jvm.Cond.selects "RaisedPress$Setter" ({ cls := "RaisedPress$Setter", name := "justFor", desc := "(I)I" } : Jvm.MethodName) ({ cls := "RaisedPress$Setter", name := "justFor", desc := "(I)I" } : Jvm.MethodName)) ∈ lw_all := lw_g (lw_at lw_m4 122 rfl) rfl
theorem q962 : (Jvm.Cond.code ({ cls := "RaisedPress$Setter", name := "justFor", desc := "(I)I" } : Jvm.MethodName) prog_12_method_5_code (3 : Nat) (Option.some Jvm.ClassFile.FieldType.int)) ∈ lw_all := lw_g (lw_at lw_m4 123 rfl) rfl
theorem q963 : (Jvm.Cond.methodLink "RaisedPress$Setter" (91 : Nat) ({ cls := "RaisedPress$Rule", name := "isJust", desc := "(I)Z" } : Jvm.MethodName)) ∈ lw_all := lw_g (lw_at lw_m4 124 rfl) rfl
theorem q973 : (Jvm.Cond.instanceMethod ({ cls := "RaisedPress$Setter", name := "told", desc := "()LRaisedPress$Writing;" } : Jvm.MethodName)) ∈ lw_all := lw_g (lw_at lw_m4 134 rfl) rfl
theorem q974 : (Jvm.Cond.selects "RaisedPress$Setter" ({ cls := "RaisedPress$Setter", name := "told", desc := "()LRaisedPress$Writing;" } : Jvm.MethodName) ({ cls := "RaisedPress$Setter", name := "told", desc := "()LRaisedPress$Writing;" } : Jvm.MethodName)) ∈ lw_all := lw_g (lw_at lw_m4 135 rfl) rfl
theorem q975 : (Jvm.Cond.code ({ cls := "RaisedPress$Setter", name := "told", desc := "()LRaisedPress$Writing;" } : Jvm.MethodName) prog_12_method_19_code (3 : Nat) (Option.some (Jvm.ClassFile.FieldType.object "RaisedPress$Writing"))) ∈ lw_all := lw_g (lw_at lw_m4 136 rfl) rfl
theorem q976 : (Jvm.Cond.methodLink "RaisedPress$Setter" (194 : Nat) ({ cls := "RaisedPress$Setter", name := "piece", desc := "(I)V" } : Jvm.MethodName)) ∈ lw_all := lw_g (lw_at lw_m4 137 rfl) rfl
theorem q977 : (Jvm.Cond.privateMethod ({ cls := "RaisedPress$Setter", name := "piece", desc := "(I)V" } : Jvm.MethodName)) ∈ lw_tbl := lw_at lw_m4 138 rfl
theorem q978 : (Jvm.Cond.instanceMethod ({ cls := "RaisedPress$Setter", name := "piece", desc := "(I)V" } : Jvm.MethodName)) ∈ lw_all := lw_g (lw_at lw_m4 139 rfl) rfl
theorem q979 : (Jvm.Cond.code ({ cls := "RaisedPress$Setter", name := "piece", desc := "(I)V" } : Jvm.MethodName) prog_12_method_17_code (6 : Nat) (Option.none : Option Jvm.ClassFile.FieldType)) ∈ lw_all := lw_g (lw_at lw_m4 140 rfl) rfl
theorem q980 : (Jvm.Cond.methodLink "RaisedPress$Setter" (169 : Nat) ({ cls := "RaisedPress$Setter", name := "inLine", desc := "()I" } : Jvm.MethodName)) ∈ lw_all := lw_g (lw_at lw_m4 141 rfl) rfl
theorem q981 : (Jvm.Cond.privateMethod ({ cls := "RaisedPress$Setter", name := "inLine", desc := "()I" } : Jvm.MethodName)) ∈ lw_tbl := lw_at lw_m4 142 rfl
theorem q982 : (Jvm.Cond.instanceMethod ({ cls := "RaisedPress$Setter", name := "inLine", desc := "()I" } : Jvm.MethodName)) ∈ lw_all := lw_g (lw_at lw_m4 143 rfl) rfl
theorem q983 : (Jvm.Cond.code ({ cls := "RaisedPress$Setter", name := "inLine", desc := "()I" } : Jvm.MethodName) prog_12_method_16_code (1 : Nat) (Option.some Jvm.ClassFile.FieldType.int)) ∈ lw_all := lw_g (lw_at lw_m4 144 rfl) rfl
theorem q984 : (Jvm.Cond.methodLink "RaisedPress$Setter" (176 : Nat) ({ cls := "RaisedPress$Setter", name := "ends", desc := "()V" } : Jvm.MethodName)) ∈ lw_all := lw_g (lw_at lw_m4 145 rfl) rfl
theorem q985 : (Jvm.Cond.privateMethod ({ cls := "RaisedPress$Setter", name := "ends", desc := "()V" } : Jvm.MethodName)) ∈ lw_tbl := lw_at lw_m4 146 rfl
theorem q986 : (Jvm.Cond.instanceMethod ({ cls := "RaisedPress$Setter", name := "ends", desc := "()V" } : Jvm.MethodName)) ∈ lw_all := lw_g (lw_at lw_m4 147 rfl) rfl
theorem q987 : (Jvm.Cond.code ({ cls := "RaisedPress$Setter", name := "ends", desc := "()V" } : Jvm.MethodName) prog_12_method_15_code (1 : Nat) (Option.none : Option Jvm.ClassFile.FieldType)) ∈ lw_all := lw_g (lw_at lw_m4 148 rfl) rfl
theorem q988 : (Jvm.Cond.methodLink "RaisedPress$Setter" (179 : Nat) ({ cls := "RaisedPress$Setter", name := "lays", desc := "(I)V" } : Jvm.MethodName)) ∈ lw_all := lw_g (lw_at lw_m4 149 rfl) rfl
theorem q989 : (Jvm.Cond.privateMethod ({ cls := "RaisedPress$Setter", name := "lays", desc := "(I)V" } : Jvm.MethodName)) ∈ lw_tbl := lw_at lw_m4 150 rfl
theorem q990 : (Jvm.Cond.instanceMethod ({ cls := "RaisedPress$Setter", name := "lays", desc := "(I)V" } : Jvm.MethodName)) ∈ lw_all := lw_g (lw_at lw_m4 151 rfl) rfl
theorem q991 : (Jvm.Cond.code ({ cls := "RaisedPress$Setter", name := "lays", desc := "(I)V" } : Jvm.MethodName) prog_12_method_14_code (2 : Nat) (Option.none : Option Jvm.ClassFile.FieldType)) ∈ lw_all := lw_g (lw_at lw_m4 152 rfl) rfl
theorem q992 : (Jvm.Cond.methodLink "RaisedPress$Setter" (188 : Nat) ({ cls := "java/lang/System", name := "arraycopy", desc := "(Ljava/lang/Object;ILjava/lang/Object;II)V" } : Jvm.MethodName)) ∈ lw_all := lw_g (lw_at lw_m4 153 rfl) rfl
theorem q993 : (Jvm.Cond.classLink "RaisedPress$Setter" (197 : Nat) "RaisedPress$Writing") ∈ lw_all := lw_g (lw_at lw_m4 154 rfl) rfl
theorem q995 : (Jvm.Cond.methodLink "RaisedPress$Setter" (199 : Nat) ({ cls := "RaisedPress$Writing", name := "<init>", desc := "([B)V" } : Jvm.MethodName)) ∈ lw_all := lw_g (lw_at lw_m4 156 rfl) rfl
theorem q1002 : (Jvm.Cond.fieldLinkNest "RaisedPress$Setter" (206 : Nat) "RaisedPress$Writing" "cells" "[I" "RaisedPress") ∈ lw_tbl := lw_at lw_m4 163 rfl
theorem q1005 : (Jvm.Cond.fieldLinkNest "RaisedPress$Setter" (207 : Nat) "RaisedPress$Writing" "pieceAt" "[I" "RaisedPress") ∈ lw_tbl := lw_at lw_m4 166 rfl
theorem q1008 : (Jvm.Cond.fieldLinkNest "RaisedPress$Setter" (208 : Nat) "RaisedPress$Writing" "pieceMany" "[I" "RaisedPress") ∈ lw_tbl := lw_at lw_m4 169 rfl
theorem q1011 : (Jvm.Cond.fieldLinkNest "RaisedPress$Setter" (209 : Nat) "RaisedPress$Writing" "pieceLine" "[I" "RaisedPress") ∈ lw_tbl := lw_at lw_m4 172 rfl
theorem q1014 : (Jvm.Cond.fieldLinkNest "RaisedPress$Setter" (210 : Nat) "RaisedPress$Writing" "pieceEnd" "[I" "RaisedPress") ∈ lw_tbl := lw_at lw_m4 175 rfl
theorem q1017 : (Jvm.Cond.fieldLinkNest "RaisedPress$Setter" (211 : Nat) "RaisedPress$Writing" "cellBy" "[I" "RaisedPress") ∈ lw_tbl := lw_at lw_m4 178 rfl
theorem q1020 : (Jvm.Cond.fieldLinkNest "RaisedPress$Setter" (212 : Nat) "RaisedPress$Writing" "laid" "[I" "RaisedPress") ∈ lw_tbl := lw_at lw_m4 181 rfl
theorem q1023 : (Jvm.Cond.fieldLinkNest "RaisedPress$Setter" (213 : Nat) "RaisedPress$Writing" "lineAt" "[I" "RaisedPress") ∈ lw_tbl := lw_at lw_m4 184 rfl
theorem q1026 : (Jvm.Cond.fieldLinkNest "RaisedPress$Setter" (214 : Nat) "RaisedPress$Writing" "used" "[I" "RaisedPress") ∈ lw_tbl := lw_at lw_m4 187 rfl
theorem q1028 : (Jvm.Cond.fieldLinkNest "RaisedPress$Setter" (215 : Nat) "RaisedPress$Writing" "all" "I" "RaisedPress") ∈ lw_tbl := lw_at lw_m4 189 rfl
theorem q1030 : (Jvm.Cond.fieldLinkNest "RaisedPress$Setter" (216 : Nat) "RaisedPress$Writing" "hyphens" "I" "RaisedPress") ∈ lw_tbl := lw_at lw_m4 191 rfl
theorem q1032 : (Jvm.Cond.fieldLinkNest "RaisedPress$Setter" (217 : Nat) "RaisedPress$Writing" "lettered" "I" "RaisedPress") ∈ lw_tbl := lw_at lw_m4 193 rfl
theorem q1061 : (Jvm.Cond.methodLink "RaisedPress$Setter" (202 : Nat) ({ cls := "RaisedPress$Setter", name := "cut", desc := "([II)[I" } : Jvm.MethodName)) ∈ lw_all := lw_g (lw_at lw_m4 222 rfl) rfl
theorem q1062 : (Jvm.Cond.privateMethod ({ cls := "RaisedPress$Setter", name := "cut", desc := "([II)[I" } : Jvm.MethodName)) ∈ lw_tbl := lw_at lw_m4 223 rfl
theorem q1063 : (Jvm.Cond.instanceMethod ({ cls := "RaisedPress$Setter", name := "cut", desc := "([II)[I" } : Jvm.MethodName)) ∈ lw_all := lw_g (lw_at lw_m4 224 rfl) rfl
theorem q1064 : (Jvm.Cond.code ({ cls := "RaisedPress$Setter", name := "cut", desc := "([II)[I" } : Jvm.MethodName) prog_12_method_18_code (4 : Nat) (Option.some (Jvm.ClassFile.FieldType.array Jvm.ClassFile.FieldType.int))) ∈ lw_all := lw_g (lw_at lw_m4 225 rfl) rfl
theorem q1192 : (Jvm.Cond.instanceMethod ({ cls := "RaisedPress$Setter", name := "plain", desc := "()I" } : Jvm.MethodName)) ∈ lw_all := lw_g (lw_at lw_m5 113 rfl) rfl
theorem q1193 : (Jvm.Cond.selects "RaisedPress$Setter" ({ cls := "RaisedPress$Setter", name := "plain", desc := "()I" } : Jvm.MethodName) ({ cls := "RaisedPress$Setter", name := "plain", desc := "()I" } : Jvm.MethodName)) ∈ lw_all := lw_g (lw_at lw_m5 114 rfl) rfl
theorem q1194 : (Jvm.Cond.code ({ cls := "RaisedPress$Setter", name := "plain", desc := "()I" } : Jvm.MethodName) prog_12_method_23_code (4 : Nat) (Option.some Jvm.ClassFile.FieldType.int)) ∈ lw_all := lw_g (lw_at lw_m5 115 rfl) rfl
theorem q1200 : (Jvm.Cond.instanceMethod ({ cls := "RaisedPress$Setter", name := "fewest", desc := "()I" } : Jvm.MethodName)) ∈ lw_all := lw_g (lw_at lw_m5 121 rfl) rfl
theorem q1201 : (Jvm.Cond.selects "RaisedPress$Setter" ({ cls := "RaisedPress$Setter", name := "fewest", desc := "()I" } : Jvm.MethodName) ({ cls := "RaisedPress$Setter", name := "fewest", desc := "()I" } : Jvm.MethodName)) ∈ lw_all := lw_g (lw_at lw_m5 122 rfl) rfl
theorem q1202 : (Jvm.Cond.code ({ cls := "RaisedPress$Setter", name := "fewest", desc := "()I" } : Jvm.MethodName) prog_12_method_21_code (5 : Nat) (Option.some Jvm.ClassFile.FieldType.int)) ∈ lw_all := lw_g (lw_at lw_m5 123 rfl) rfl
theorem q1203 : (Jvm.Cond.methodLink "RaisedPress$Setter" (227 : Nat) ({ cls := "RaisedPress$Setter", name := "fewest", desc := "(II)I" } : Jvm.MethodName)) ∈ lw_all := lw_g (lw_at lw_m5 124 rfl) rfl
theorem q1204 : (Jvm.Cond.privateMethod ({ cls := "RaisedPress$Setter", name := "fewest", desc := "(II)I" } : Jvm.MethodName)) ∈ lw_tbl := lw_at lw_m5 125 rfl
theorem q1205 : (Jvm.Cond.instanceMethod ({ cls := "RaisedPress$Setter", name := "fewest", desc := "(II)I" } : Jvm.MethodName)) ∈ lw_all := lw_g (lw_at lw_m5 126 rfl) rfl
theorem q1206 : (Jvm.Cond.code ({ cls := "RaisedPress$Setter", name := "fewest", desc := "(II)I" } : Jvm.MethodName) prog_12_method_20_code (7 : Nat) (Option.some Jvm.ClassFile.FieldType.int)) ∈ lw_all := lw_g (lw_at lw_m5 127 rfl) rfl
theorem q1207 : (Jvm.Cond.constant "RaisedPress$Setter" (220 : Nat) (2147483647 : Int32)) ∈ lw_all := lw_g (lw_at lw_m5 128 rfl) rfl
theorem q1208 : (Jvm.Cond.methodLink "RaisedPress$Setter" (221 : Nat) ({ cls := "java/lang/Math", name := "min", desc := "(II)I" } : Jvm.MethodName)) ∈ lw_all := lw_g (lw_at lw_m5 129 rfl) rfl
theorem q1276 : (Jvm.Cond.instanceMethod ({ cls := "RaisedPress$Setter", name := "covers", desc := "(I)I" } : Jvm.MethodName)) ∈ lw_all := lw_g (lw_at lw_m5 197 rfl) rfl
theorem q1277 : (Jvm.Cond.selects "RaisedPress$Setter" ({ cls := "RaisedPress$Setter", name := "covers", desc := "(I)I" } : Jvm.MethodName) ({ cls := "RaisedPress$Setter", name := "covers", desc := "(I)I" } : Jvm.MethodName)) ∈ lw_all := lw_g (lw_at lw_m5 198 rfl) rfl
theorem q1278 : (Jvm.Cond.code ({ cls := "RaisedPress$Setter", name := "covers", desc := "(I)I" } : Jvm.MethodName) prog_12_method_22_code (6 : Nat) (Option.some Jvm.ClassFile.FieldType.int)) ∈ lw_all := lw_g (lw_at lw_m5 199 rfl) rfl
theorem in_X6 : ∀ w ∈ wsX60, w ∈ lw_all := lw_in wsX60 [362, 364, 366, 368, 370, 372, 374, 376, 378, 380, 382, 384, 386, 388, 390, 392, 394, 396, 398, 400, 402, 404] (by decide +kernel) (by decide +kernel)
/-! RaisedPress$Reader -/
set_option maxRecDepth 100000
def RX8 : String := "RaisedPress$Reader"
def TX8 : u_T := fun k => match k with
  | 0 => ("RaisedPress$Reader", "size", "I", true)
  | 1 => ("RaisedPress$Reader", "at", "I", false)
  | 2 => ("RaisedPress$Reader", "behind", "I", false)
  | 3 => ("RaisedPress$Reader", "sort", "I", false)
  | 4 => ("RaisedPress$Reader", "number", "I", false)
  | 5 => ("RaisedPress$Reader", "hasLine", "Z", false)
  | 6 => ("RaisedPress$Reader", "hasPage", "Z", false)
  | _ => ("RaisedPress$Reader", "this$0", "LRaisedPress;", true)
def tyX8 : Nat → FieldType := fun k => match k with
  | 0 => .int
  | 1 => .int
  | 2 => .int
  | 3 => .int
  | 4 => .int
  | 5 => .boolean
  | 6 => .boolean
  | _ => .object "RaisedPress"
abbrev wsX80 : List Cond := u_ws RX8 TX8 8
theorem nmX8 : ∀ a, a < 8 → ∀ b, b < 8 → a ≠ b → (TX8 a).2.1 ≠ (TX8 b).2.1 := by decide +kernel
theorem tyX8_ok : ∀ k, k < 8 → parseFieldDescriptor (TX8 k).2.2.1 = some (tyX8 k) := by decide +kernel
abbrev cX8_init : ByteArray := prog_9_method_1_code
def yX8_init : MethodName := ⟨RX8, "<init>", "(LRaisedPress;I)V"⟩
def dkwX8_init_0 : List UInt8 := [42, 43, 181, 0, 3, 42, 183, 0, 9, 42, 28, 181, 0, 15, 42, 182, 0, 19, 177]
abbrev dktX8_init_0 : List UInt8 := dkwX8_init_0 ++ []
theorem dksX8_init_0 : cX8_init.data.toList.drop 0 = dktX8_init_0 := by decide +kernel
theorem dX8_init_0 : decode cX8_init 0 = .ok (.aload_n 0, 1) := dk_42 (dk_at dksX8_init_0 0 rfl rfl)
theorem dX8_init_1 : decode cX8_init 1 = .ok (.aload_n 1, 1) := dk_43 (dk_at dksX8_init_0 1 rfl rfl)
theorem dX8_init_2 : decode cX8_init 2 = .ok (.putfield 3, 3) := dk_181 0 3 (dk_at dksX8_init_0 2 rfl rfl)
theorem dX8_init_5 : decode cX8_init 5 = .ok (.aload_n 0, 1) := dk_42 (dk_at dksX8_init_0 5 rfl rfl)
theorem dX8_init_6 : decode cX8_init 6 = .ok (.invokespecial 9, 3) := dk_183 0 9 (dk_at dksX8_init_0 6 rfl rfl)
theorem dX8_init_9 : decode cX8_init 9 = .ok (.aload_n 0, 1) := dk_42 (dk_at dksX8_init_0 9 rfl rfl)
theorem dX8_init_10 : decode cX8_init 10 = .ok (.iload_n 2, 1) := dk_28 (dk_at dksX8_init_0 10 rfl rfl)
theorem dX8_init_11 : decode cX8_init 11 = .ok (.putfield 15, 3) := dk_181 0 15 (dk_at dksX8_init_0 11 rfl rfl)
theorem dX8_init_14 : decode cX8_init 14 = .ok (.aload_n 0, 1) := dk_42 (dk_at dksX8_init_0 14 rfl rfl)
theorem dX8_init_15 : decode cX8_init 15 = .ok (.invokevirtual 19, 3) := dk_182 0 19 (dk_at dksX8_init_0 15 rfl rfl)
theorem dX8_init_18 : decode cX8_init 18 = .ok (.return_, 1) := dk_177 (dk_at dksX8_init_0 18 rfl rfl)
abbrev cX8_next : ByteArray := prog_9_method_4_code
def yX8_next : MethodName := ⟨RX8, "next", "()V"⟩
def dkwX8_next_11 : List UInt8 := [177]
abbrev dktX8_next_11 : List UInt8 := dkwX8_next_11 ++ []
def dkwX8_next_10 : List UInt8 := [180, 0, 3, 180, 0, 22, 42, 180, 0, 36, 51, 16, 59, 160, 0, 7, 6, 167, 0, 4, 7, 181, 0, 42]
abbrev dktX8_next_10 : List UInt8 := dkwX8_next_10 ++ dktX8_next_11
def dkwX8_next_9 : List UInt8 := [167, 0, 4, 5, 181, 0, 42, 167, 0, 39, 42, 42, 180, 0, 36, 4, 96, 181, 0, 33, 42, 42]
abbrev dktX8_next_9 : List UInt8 := dkwX8_next_9 ++ dktX8_next_10
def dkwX8_next_8 : List UInt8 := [4, 96, 181, 0, 33, 167, 255, 195, 42, 42, 180, 0, 33, 42, 180, 0, 36, 100, 7, 164, 0, 7, 7]
abbrev dktX8_next_8 : List UInt8 := dkwX8_next_8 ++ dktX8_next_9
def dkwX8_next_7 : List UInt8 := [42, 180, 0, 3, 180, 0, 22, 42, 180, 0, 33, 51, 96, 16, 48, 100, 181, 0, 51, 42, 89, 180, 0, 33]
abbrev dktX8_next_7 : List UInt8 := dkwX8_next_7 ++ dktX8_next_8
def dkwX8_next_6 : List UInt8 := [153, 0, 56, 42, 180, 0, 33, 42, 180, 0, 36, 100, 7, 162, 0, 30, 42, 16, 10, 42, 180, 0, 51, 104]
abbrev dktX8_next_6 : List UInt8 := dkwX8_next_6 ++ dktX8_next_7
def dkwX8_next_5 : List UInt8 := [180, 0, 36, 182, 0, 48, 153, 0, 97, 42, 3, 181, 0, 51, 42, 42, 180, 0, 33, 182, 0, 48]
abbrev dktX8_next_5 : List UInt8 := dkwX8_next_5 ++ dktX8_next_6
def dkwX8_next_4 : List UInt8 := [180, 0, 33, 182, 0, 45, 153, 0, 157, 42, 89, 180, 0, 33, 4, 96, 181, 0, 33, 167, 255, 235, 42, 42]
abbrev dktX8_next_4 : List UInt8 := dkwX8_next_4 ++ dktX8_next_5
def dkwX8_next_3 : List UInt8 := [161, 0, 4, 177, 42, 42, 180, 0, 36, 182, 0, 45, 153, 0, 32, 42, 4, 181, 0, 42, 42, 42]
abbrev dktX8_next_3 : List UInt8 := dkwX8_next_3 ++ dktX8_next_4
def dkwX8_next_2 : List UInt8 := [167, 255, 217, 42, 42, 180, 0, 36, 181, 0, 33, 42, 3, 181, 0, 42, 42, 180, 0, 36, 42, 180, 0, 15]
abbrev dktX8_next_2 : List UInt8 := dkwX8_next_2 ++ dktX8_next_3
def dkwX8_next_1 : List UInt8 := [180, 0, 22, 42, 180, 0, 36, 51, 184, 0, 39, 153, 0, 16, 42, 89, 180, 0, 36, 4, 96, 181, 0, 36]
abbrev dktX8_next_1 : List UInt8 := dkwX8_next_1 ++ dktX8_next_2
def dkwX8_next_0 : List UInt8 := [42, 42, 180, 0, 33, 181, 0, 36, 42, 180, 0, 36, 42, 180, 0, 15, 162, 0, 34, 42, 180, 0, 3]
abbrev dktX8_next_0 : List UInt8 := dkwX8_next_0 ++ dktX8_next_1
theorem dksX8_next_0 : cX8_next.data.toList.drop 0 = dktX8_next_0 := by decide +kernel
theorem dksX8_next_1 : cX8_next.data.toList.drop 23 = dktX8_next_1 := dk_seg dksX8_next_0 23 rfl rfl
theorem dksX8_next_2 : cX8_next.data.toList.drop 47 = dktX8_next_2 := dk_seg dksX8_next_1 24 rfl rfl
theorem dksX8_next_3 : cX8_next.data.toList.drop 71 = dktX8_next_3 := dk_seg dksX8_next_2 24 rfl rfl
theorem dksX8_next_4 : cX8_next.data.toList.drop 93 = dktX8_next_4 := dk_seg dksX8_next_3 22 rfl rfl
theorem dksX8_next_5 : cX8_next.data.toList.drop 117 = dktX8_next_5 := dk_seg dksX8_next_4 24 rfl rfl
theorem dksX8_next_6 : cX8_next.data.toList.drop 139 = dktX8_next_6 := dk_seg dksX8_next_5 22 rfl rfl
theorem dksX8_next_7 : cX8_next.data.toList.drop 163 = dktX8_next_7 := dk_seg dksX8_next_6 24 rfl rfl
theorem dksX8_next_8 : cX8_next.data.toList.drop 187 = dktX8_next_8 := dk_seg dksX8_next_7 24 rfl rfl
theorem dksX8_next_9 : cX8_next.data.toList.drop 210 = dktX8_next_9 := dk_seg dksX8_next_8 23 rfl rfl
theorem dksX8_next_10 : cX8_next.data.toList.drop 232 = dktX8_next_10 := dk_seg dksX8_next_9 22 rfl rfl
theorem dksX8_next_11 : cX8_next.data.toList.drop 256 = dktX8_next_11 := dk_seg dksX8_next_10 24 rfl rfl
theorem dX8_next_0 : decode cX8_next 0 = .ok (.aload_n 0, 1) := dk_42 (dk_at dksX8_next_0 0 rfl rfl)
theorem dX8_next_1 : decode cX8_next 1 = .ok (.aload_n 0, 1) := dk_42 (dk_at dksX8_next_0 1 rfl rfl)
theorem dX8_next_2 : decode cX8_next 2 = .ok (.getfield 33, 3) := dk_180 0 33 (dk_at dksX8_next_0 2 rfl rfl)
theorem dX8_next_5 : decode cX8_next 5 = .ok (.putfield 36, 3) := dk_181 0 36 (dk_at dksX8_next_0 5 rfl rfl)
theorem dX8_next_8 : decode cX8_next 8 = .ok (.aload_n 0, 1) := dk_42 (dk_at dksX8_next_0 8 rfl rfl)
theorem dX8_next_9 : decode cX8_next 9 = .ok (.getfield 36, 3) := dk_180 0 36 (dk_at dksX8_next_0 9 rfl rfl)
theorem dX8_next_12 : decode cX8_next 12 = .ok (.aload_n 0, 1) := dk_42 (dk_at dksX8_next_0 12 rfl rfl)
theorem dX8_next_13 : decode cX8_next 13 = .ok (.getfield 15, 3) := dk_180 0 15 (dk_at dksX8_next_0 13 rfl rfl)
theorem dX8_next_16 : decode cX8_next 16 = .ok (.if_icmp .ge 34, 3) := dk_162 0 34 (dk_at dksX8_next_0 16 rfl rfl)
theorem dX8_next_19 : decode cX8_next 19 = .ok (.aload_n 0, 1) := dk_42 (dk_at dksX8_next_0 19 rfl rfl)
theorem dX8_next_20 : decode cX8_next 20 = .ok (.getfield 3, 3) := dk_180 0 3 (dk_at dksX8_next_0 20 rfl rfl)
theorem dX8_next_23 : decode cX8_next 23 = .ok (.getfield 22, 3) := dk_180 0 22 (dk_at dksX8_next_1 0 rfl rfl)
theorem dX8_next_26 : decode cX8_next 26 = .ok (.aload_n 0, 1) := dk_42 (dk_at dksX8_next_1 3 rfl rfl)
theorem dX8_next_27 : decode cX8_next 27 = .ok (.getfield 36, 3) := dk_180 0 36 (dk_at dksX8_next_1 4 rfl rfl)
theorem dX8_next_30 : decode cX8_next 30 = .ok (.baload, 1) := dk_51 (dk_at dksX8_next_1 7 rfl rfl)
theorem dX8_next_31 : decode cX8_next 31 = .ok (.invokestatic 39, 3) := dk_184 0 39 (dk_at dksX8_next_1 8 rfl rfl)
theorem dX8_next_34 : decode cX8_next 34 = .ok (.ifCond .eq 16, 3) := dk_153 0 16 (dk_at dksX8_next_1 11 rfl rfl)
theorem dX8_next_37 : decode cX8_next 37 = .ok (.aload_n 0, 1) := dk_42 (dk_at dksX8_next_1 14 rfl rfl)
theorem dX8_next_38 : decode cX8_next 38 = .ok (.dup, 1) := dk_89 (dk_at dksX8_next_1 15 rfl rfl)
theorem dX8_next_39 : decode cX8_next 39 = .ok (.getfield 36, 3) := dk_180 0 36 (dk_at dksX8_next_1 16 rfl rfl)
theorem dX8_next_42 : decode cX8_next 42 = .ok (.iconst 1, 1) := dk_4 (dk_at dksX8_next_1 19 rfl rfl)
theorem dX8_next_43 : decode cX8_next 43 = .ok (.iadd, 1) := dk_96 (dk_at dksX8_next_1 20 rfl rfl)
theorem dX8_next_44 : decode cX8_next 44 = .ok (.putfield 36, 3) := dk_181 0 36 (dk_at dksX8_next_1 21 rfl rfl)
theorem dX8_next_47 : decode cX8_next 47 = .ok (.goto (-39), 3) := dk_167 255 217 (dk_at dksX8_next_2 0 rfl rfl)
theorem dX8_next_50 : decode cX8_next 50 = .ok (.aload_n 0, 1) := dk_42 (dk_at dksX8_next_2 3 rfl rfl)
theorem dX8_next_51 : decode cX8_next 51 = .ok (.aload_n 0, 1) := dk_42 (dk_at dksX8_next_2 4 rfl rfl)
theorem dX8_next_52 : decode cX8_next 52 = .ok (.getfield 36, 3) := dk_180 0 36 (dk_at dksX8_next_2 5 rfl rfl)
theorem dX8_next_55 : decode cX8_next 55 = .ok (.putfield 33, 3) := dk_181 0 33 (dk_at dksX8_next_2 8 rfl rfl)
theorem dX8_next_58 : decode cX8_next 58 = .ok (.aload_n 0, 1) := dk_42 (dk_at dksX8_next_2 11 rfl rfl)
theorem dX8_next_59 : decode cX8_next 59 = .ok (.iconst 0, 1) := dk_3 (dk_at dksX8_next_2 12 rfl rfl)
theorem dX8_next_60 : decode cX8_next 60 = .ok (.putfield 42, 3) := dk_181 0 42 (dk_at dksX8_next_2 13 rfl rfl)
theorem dX8_next_63 : decode cX8_next 63 = .ok (.aload_n 0, 1) := dk_42 (dk_at dksX8_next_2 16 rfl rfl)
theorem dX8_next_64 : decode cX8_next 64 = .ok (.getfield 36, 3) := dk_180 0 36 (dk_at dksX8_next_2 17 rfl rfl)
theorem dX8_next_67 : decode cX8_next 67 = .ok (.aload_n 0, 1) := dk_42 (dk_at dksX8_next_2 20 rfl rfl)
theorem dX8_next_68 : decode cX8_next 68 = .ok (.getfield 15, 3) := dk_180 0 15 (dk_at dksX8_next_2 21 rfl rfl)
theorem dX8_next_71 : decode cX8_next 71 = .ok (.if_icmp .lt 4, 3) := dk_161 0 4 (dk_at dksX8_next_3 0 rfl rfl)
theorem dX8_next_74 : decode cX8_next 74 = .ok (.return_, 1) := dk_177 (dk_at dksX8_next_3 3 rfl rfl)
theorem dX8_next_75 : decode cX8_next 75 = .ok (.aload_n 0, 1) := dk_42 (dk_at dksX8_next_3 4 rfl rfl)
theorem dX8_next_76 : decode cX8_next 76 = .ok (.aload_n 0, 1) := dk_42 (dk_at dksX8_next_3 5 rfl rfl)
theorem dX8_next_77 : decode cX8_next 77 = .ok (.getfield 36, 3) := dk_180 0 36 (dk_at dksX8_next_3 6 rfl rfl)
theorem dX8_next_80 : decode cX8_next 80 = .ok (.invokevirtual 45, 3) := dk_182 0 45 (dk_at dksX8_next_3 9 rfl rfl)
theorem dX8_next_83 : decode cX8_next 83 = .ok (.ifCond .eq 32, 3) := dk_153 0 32 (dk_at dksX8_next_3 12 rfl rfl)
theorem dX8_next_86 : decode cX8_next 86 = .ok (.aload_n 0, 1) := dk_42 (dk_at dksX8_next_3 15 rfl rfl)
theorem dX8_next_87 : decode cX8_next 87 = .ok (.iconst 1, 1) := dk_4 (dk_at dksX8_next_3 16 rfl rfl)
theorem dX8_next_88 : decode cX8_next 88 = .ok (.putfield 42, 3) := dk_181 0 42 (dk_at dksX8_next_3 17 rfl rfl)
theorem dX8_next_91 : decode cX8_next 91 = .ok (.aload_n 0, 1) := dk_42 (dk_at dksX8_next_3 20 rfl rfl)
theorem dX8_next_92 : decode cX8_next 92 = .ok (.aload_n 0, 1) := dk_42 (dk_at dksX8_next_3 21 rfl rfl)
theorem dX8_next_93 : decode cX8_next 93 = .ok (.getfield 33, 3) := dk_180 0 33 (dk_at dksX8_next_4 0 rfl rfl)
theorem dX8_next_96 : decode cX8_next 96 = .ok (.invokevirtual 45, 3) := dk_182 0 45 (dk_at dksX8_next_4 3 rfl rfl)
theorem dX8_next_99 : decode cX8_next 99 = .ok (.ifCond .eq 157, 3) := dk_153 0 157 (dk_at dksX8_next_4 6 rfl rfl)
theorem dX8_next_102 : decode cX8_next 102 = .ok (.aload_n 0, 1) := dk_42 (dk_at dksX8_next_4 9 rfl rfl)
theorem dX8_next_103 : decode cX8_next 103 = .ok (.dup, 1) := dk_89 (dk_at dksX8_next_4 10 rfl rfl)
theorem dX8_next_104 : decode cX8_next 104 = .ok (.getfield 33, 3) := dk_180 0 33 (dk_at dksX8_next_4 11 rfl rfl)
theorem dX8_next_107 : decode cX8_next 107 = .ok (.iconst 1, 1) := dk_4 (dk_at dksX8_next_4 14 rfl rfl)
theorem dX8_next_108 : decode cX8_next 108 = .ok (.iadd, 1) := dk_96 (dk_at dksX8_next_4 15 rfl rfl)
theorem dX8_next_109 : decode cX8_next 109 = .ok (.putfield 33, 3) := dk_181 0 33 (dk_at dksX8_next_4 16 rfl rfl)
theorem dX8_next_112 : decode cX8_next 112 = .ok (.goto (-21), 3) := dk_167 255 235 (dk_at dksX8_next_4 19 rfl rfl)
theorem dX8_next_115 : decode cX8_next 115 = .ok (.aload_n 0, 1) := dk_42 (dk_at dksX8_next_4 22 rfl rfl)
theorem dX8_next_116 : decode cX8_next 116 = .ok (.aload_n 0, 1) := dk_42 (dk_at dksX8_next_4 23 rfl rfl)
theorem dX8_next_117 : decode cX8_next 117 = .ok (.getfield 36, 3) := dk_180 0 36 (dk_at dksX8_next_5 0 rfl rfl)
theorem dX8_next_120 : decode cX8_next 120 = .ok (.invokevirtual 48, 3) := dk_182 0 48 (dk_at dksX8_next_5 3 rfl rfl)
theorem dX8_next_123 : decode cX8_next 123 = .ok (.ifCond .eq 97, 3) := dk_153 0 97 (dk_at dksX8_next_5 6 rfl rfl)
theorem dX8_next_126 : decode cX8_next 126 = .ok (.aload_n 0, 1) := dk_42 (dk_at dksX8_next_5 9 rfl rfl)
theorem dX8_next_127 : decode cX8_next 127 = .ok (.iconst 0, 1) := dk_3 (dk_at dksX8_next_5 10 rfl rfl)
theorem dX8_next_128 : decode cX8_next 128 = .ok (.putfield 51, 3) := dk_181 0 51 (dk_at dksX8_next_5 11 rfl rfl)
theorem dX8_next_131 : decode cX8_next 131 = .ok (.aload_n 0, 1) := dk_42 (dk_at dksX8_next_5 14 rfl rfl)
theorem dX8_next_132 : decode cX8_next 132 = .ok (.aload_n 0, 1) := dk_42 (dk_at dksX8_next_5 15 rfl rfl)
theorem dX8_next_133 : decode cX8_next 133 = .ok (.getfield 33, 3) := dk_180 0 33 (dk_at dksX8_next_5 16 rfl rfl)
theorem dX8_next_136 : decode cX8_next 136 = .ok (.invokevirtual 48, 3) := dk_182 0 48 (dk_at dksX8_next_5 19 rfl rfl)
theorem dX8_next_139 : decode cX8_next 139 = .ok (.ifCond .eq 56, 3) := dk_153 0 56 (dk_at dksX8_next_6 0 rfl rfl)
theorem dX8_next_142 : decode cX8_next 142 = .ok (.aload_n 0, 1) := dk_42 (dk_at dksX8_next_6 3 rfl rfl)
theorem dX8_next_143 : decode cX8_next 143 = .ok (.getfield 33, 3) := dk_180 0 33 (dk_at dksX8_next_6 4 rfl rfl)
theorem dX8_next_146 : decode cX8_next 146 = .ok (.aload_n 0, 1) := dk_42 (dk_at dksX8_next_6 7 rfl rfl)
theorem dX8_next_147 : decode cX8_next 147 = .ok (.getfield 36, 3) := dk_180 0 36 (dk_at dksX8_next_6 8 rfl rfl)
theorem dX8_next_150 : decode cX8_next 150 = .ok (.isub, 1) := dk_100 (dk_at dksX8_next_6 11 rfl rfl)
theorem dX8_next_151 : decode cX8_next 151 = .ok (.iconst 4, 1) := dk_7 (dk_at dksX8_next_6 12 rfl rfl)
theorem dX8_next_152 : decode cX8_next 152 = .ok (.if_icmp .ge 30, 3) := dk_162 0 30 (dk_at dksX8_next_6 13 rfl rfl)
theorem dX8_next_155 : decode cX8_next 155 = .ok (.aload_n 0, 1) := dk_42 (dk_at dksX8_next_6 16 rfl rfl)
theorem dX8_next_156 : decode cX8_next 156 = .ok (.bipush 10, 2) := dk_16 10 (dk_at dksX8_next_6 17 rfl rfl)
theorem dX8_next_158 : decode cX8_next 158 = .ok (.aload_n 0, 1) := dk_42 (dk_at dksX8_next_6 19 rfl rfl)
theorem dX8_next_159 : decode cX8_next 159 = .ok (.getfield 51, 3) := dk_180 0 51 (dk_at dksX8_next_6 20 rfl rfl)
theorem dX8_next_162 : decode cX8_next 162 = .ok (.imul, 1) := dk_104 (dk_at dksX8_next_6 23 rfl rfl)
theorem dX8_next_163 : decode cX8_next 163 = .ok (.aload_n 0, 1) := dk_42 (dk_at dksX8_next_7 0 rfl rfl)
theorem dX8_next_164 : decode cX8_next 164 = .ok (.getfield 3, 3) := dk_180 0 3 (dk_at dksX8_next_7 1 rfl rfl)
theorem dX8_next_167 : decode cX8_next 167 = .ok (.getfield 22, 3) := dk_180 0 22 (dk_at dksX8_next_7 4 rfl rfl)
theorem dX8_next_170 : decode cX8_next 170 = .ok (.aload_n 0, 1) := dk_42 (dk_at dksX8_next_7 7 rfl rfl)
theorem dX8_next_171 : decode cX8_next 171 = .ok (.getfield 33, 3) := dk_180 0 33 (dk_at dksX8_next_7 8 rfl rfl)
theorem dX8_next_174 : decode cX8_next 174 = .ok (.baload, 1) := dk_51 (dk_at dksX8_next_7 11 rfl rfl)
theorem dX8_next_175 : decode cX8_next 175 = .ok (.iadd, 1) := dk_96 (dk_at dksX8_next_7 12 rfl rfl)
theorem dX8_next_176 : decode cX8_next 176 = .ok (.bipush 48, 2) := dk_16 48 (dk_at dksX8_next_7 13 rfl rfl)
theorem dX8_next_178 : decode cX8_next 178 = .ok (.isub, 1) := dk_100 (dk_at dksX8_next_7 15 rfl rfl)
theorem dX8_next_179 : decode cX8_next 179 = .ok (.putfield 51, 3) := dk_181 0 51 (dk_at dksX8_next_7 16 rfl rfl)
theorem dX8_next_182 : decode cX8_next 182 = .ok (.aload_n 0, 1) := dk_42 (dk_at dksX8_next_7 19 rfl rfl)
theorem dX8_next_183 : decode cX8_next 183 = .ok (.dup, 1) := dk_89 (dk_at dksX8_next_7 20 rfl rfl)
theorem dX8_next_184 : decode cX8_next 184 = .ok (.getfield 33, 3) := dk_180 0 33 (dk_at dksX8_next_7 21 rfl rfl)
theorem dX8_next_187 : decode cX8_next 187 = .ok (.iconst 1, 1) := dk_4 (dk_at dksX8_next_8 0 rfl rfl)
theorem dX8_next_188 : decode cX8_next 188 = .ok (.iadd, 1) := dk_96 (dk_at dksX8_next_8 1 rfl rfl)
theorem dX8_next_189 : decode cX8_next 189 = .ok (.putfield 33, 3) := dk_181 0 33 (dk_at dksX8_next_8 2 rfl rfl)
theorem dX8_next_192 : decode cX8_next 192 = .ok (.goto (-61), 3) := dk_167 255 195 (dk_at dksX8_next_8 5 rfl rfl)
theorem dX8_next_195 : decode cX8_next 195 = .ok (.aload_n 0, 1) := dk_42 (dk_at dksX8_next_8 8 rfl rfl)
theorem dX8_next_196 : decode cX8_next 196 = .ok (.aload_n 0, 1) := dk_42 (dk_at dksX8_next_8 9 rfl rfl)
theorem dX8_next_197 : decode cX8_next 197 = .ok (.getfield 33, 3) := dk_180 0 33 (dk_at dksX8_next_8 10 rfl rfl)
theorem dX8_next_200 : decode cX8_next 200 = .ok (.aload_n 0, 1) := dk_42 (dk_at dksX8_next_8 13 rfl rfl)
theorem dX8_next_201 : decode cX8_next 201 = .ok (.getfield 36, 3) := dk_180 0 36 (dk_at dksX8_next_8 14 rfl rfl)
theorem dX8_next_204 : decode cX8_next 204 = .ok (.isub, 1) := dk_100 (dk_at dksX8_next_8 17 rfl rfl)
theorem dX8_next_205 : decode cX8_next 205 = .ok (.iconst 4, 1) := dk_7 (dk_at dksX8_next_8 18 rfl rfl)
theorem dX8_next_206 : decode cX8_next 206 = .ok (.if_icmp .le 7, 3) := dk_164 0 7 (dk_at dksX8_next_8 19 rfl rfl)
theorem dX8_next_209 : decode cX8_next 209 = .ok (.iconst 4, 1) := dk_7 (dk_at dksX8_next_8 22 rfl rfl)
theorem dX8_next_210 : decode cX8_next 210 = .ok (.goto 4, 3) := dk_167 0 4 (dk_at dksX8_next_9 0 rfl rfl)
theorem dX8_next_213 : decode cX8_next 213 = .ok (.iconst 2, 1) := dk_5 (dk_at dksX8_next_9 3 rfl rfl)
theorem dX8_next_214 : decode cX8_next 214 = .ok (.putfield 42, 3) := dk_181 0 42 (dk_at dksX8_next_9 4 rfl rfl)
theorem dX8_next_217 : decode cX8_next 217 = .ok (.goto 39, 3) := dk_167 0 39 (dk_at dksX8_next_9 7 rfl rfl)
theorem dX8_next_220 : decode cX8_next 220 = .ok (.aload_n 0, 1) := dk_42 (dk_at dksX8_next_9 10 rfl rfl)
theorem dX8_next_221 : decode cX8_next 221 = .ok (.aload_n 0, 1) := dk_42 (dk_at dksX8_next_9 11 rfl rfl)
theorem dX8_next_222 : decode cX8_next 222 = .ok (.getfield 36, 3) := dk_180 0 36 (dk_at dksX8_next_9 12 rfl rfl)
theorem dX8_next_225 : decode cX8_next 225 = .ok (.iconst 1, 1) := dk_4 (dk_at dksX8_next_9 15 rfl rfl)
theorem dX8_next_226 : decode cX8_next 226 = .ok (.iadd, 1) := dk_96 (dk_at dksX8_next_9 16 rfl rfl)
theorem dX8_next_227 : decode cX8_next 227 = .ok (.putfield 33, 3) := dk_181 0 33 (dk_at dksX8_next_9 17 rfl rfl)
theorem dX8_next_230 : decode cX8_next 230 = .ok (.aload_n 0, 1) := dk_42 (dk_at dksX8_next_9 20 rfl rfl)
theorem dX8_next_231 : decode cX8_next 231 = .ok (.aload_n 0, 1) := dk_42 (dk_at dksX8_next_9 21 rfl rfl)
theorem dX8_next_232 : decode cX8_next 232 = .ok (.getfield 3, 3) := dk_180 0 3 (dk_at dksX8_next_10 0 rfl rfl)
theorem dX8_next_235 : decode cX8_next 235 = .ok (.getfield 22, 3) := dk_180 0 22 (dk_at dksX8_next_10 3 rfl rfl)
theorem dX8_next_238 : decode cX8_next 238 = .ok (.aload_n 0, 1) := dk_42 (dk_at dksX8_next_10 6 rfl rfl)
theorem dX8_next_239 : decode cX8_next 239 = .ok (.getfield 36, 3) := dk_180 0 36 (dk_at dksX8_next_10 7 rfl rfl)
theorem dX8_next_242 : decode cX8_next 242 = .ok (.baload, 1) := dk_51 (dk_at dksX8_next_10 10 rfl rfl)
theorem dX8_next_243 : decode cX8_next 243 = .ok (.bipush 59, 2) := dk_16 59 (dk_at dksX8_next_10 11 rfl rfl)
theorem dX8_next_245 : decode cX8_next 245 = .ok (.if_icmp .ne 7, 3) := dk_160 0 7 (dk_at dksX8_next_10 13 rfl rfl)
theorem dX8_next_248 : decode cX8_next 248 = .ok (.iconst 3, 1) := dk_6 (dk_at dksX8_next_10 16 rfl rfl)
theorem dX8_next_249 : decode cX8_next 249 = .ok (.goto 4, 3) := dk_167 0 4 (dk_at dksX8_next_10 17 rfl rfl)
theorem dX8_next_252 : decode cX8_next 252 = .ok (.iconst 4, 1) := dk_7 (dk_at dksX8_next_10 20 rfl rfl)
theorem dX8_next_253 : decode cX8_next 253 = .ok (.putfield 42, 3) := dk_181 0 42 (dk_at dksX8_next_10 21 rfl rfl)
theorem dX8_next_256 : decode cX8_next 256 = .ok (.return_, 1) := dk_177 (dk_at dksX8_next_11 0 rfl rfl)
abbrev cX8_isWordByte : ByteArray := prog_9_method_2_code
def yX8_isWordByte : MethodName := ⟨RX8, "isWordByte", "(I)Z"⟩
def dkwX8_isWordByte_1 : List UInt8 := [167, 0, 4, 3, 172]
abbrev dktX8_isWordByte_1 : List UInt8 := dkwX8_isWordByte_1 ++ []
def dkwX8_isWordByte_0 : List UInt8 := [27, 42, 180, 0, 15, 162, 0, 22, 42, 180, 0, 3, 180, 0, 22, 27, 51, 184, 0, 26, 153, 0, 7, 4]
abbrev dktX8_isWordByte_0 : List UInt8 := dkwX8_isWordByte_0 ++ dktX8_isWordByte_1
theorem dksX8_isWordByte_0 : cX8_isWordByte.data.toList.drop 0 = dktX8_isWordByte_0 := by decide +kernel
theorem dksX8_isWordByte_1 : cX8_isWordByte.data.toList.drop 24 = dktX8_isWordByte_1 := dk_seg dksX8_isWordByte_0 24 rfl rfl
theorem dX8_isWordByte_0 : decode cX8_isWordByte 0 = .ok (.iload_n 1, 1) := dk_27 (dk_at dksX8_isWordByte_0 0 rfl rfl)
theorem dX8_isWordByte_1 : decode cX8_isWordByte 1 = .ok (.aload_n 0, 1) := dk_42 (dk_at dksX8_isWordByte_0 1 rfl rfl)
theorem dX8_isWordByte_2 : decode cX8_isWordByte 2 = .ok (.getfield 15, 3) := dk_180 0 15 (dk_at dksX8_isWordByte_0 2 rfl rfl)
theorem dX8_isWordByte_5 : decode cX8_isWordByte 5 = .ok (.if_icmp .ge 22, 3) := dk_162 0 22 (dk_at dksX8_isWordByte_0 5 rfl rfl)
theorem dX8_isWordByte_8 : decode cX8_isWordByte 8 = .ok (.aload_n 0, 1) := dk_42 (dk_at dksX8_isWordByte_0 8 rfl rfl)
theorem dX8_isWordByte_9 : decode cX8_isWordByte 9 = .ok (.getfield 3, 3) := dk_180 0 3 (dk_at dksX8_isWordByte_0 9 rfl rfl)
theorem dX8_isWordByte_12 : decode cX8_isWordByte 12 = .ok (.getfield 22, 3) := dk_180 0 22 (dk_at dksX8_isWordByte_0 12 rfl rfl)
theorem dX8_isWordByte_15 : decode cX8_isWordByte 15 = .ok (.iload_n 1, 1) := dk_27 (dk_at dksX8_isWordByte_0 15 rfl rfl)
theorem dX8_isWordByte_16 : decode cX8_isWordByte 16 = .ok (.baload, 1) := dk_51 (dk_at dksX8_isWordByte_0 16 rfl rfl)
theorem dX8_isWordByte_17 : decode cX8_isWordByte 17 = .ok (.invokestatic 26, 3) := dk_184 0 26 (dk_at dksX8_isWordByte_0 17 rfl rfl)
theorem dX8_isWordByte_20 : decode cX8_isWordByte 20 = .ok (.ifCond .eq 7, 3) := dk_153 0 7 (dk_at dksX8_isWordByte_0 20 rfl rfl)
theorem dX8_isWordByte_23 : decode cX8_isWordByte 23 = .ok (.iconst 1, 1) := dk_4 (dk_at dksX8_isWordByte_0 23 rfl rfl)
theorem dX8_isWordByte_24 : decode cX8_isWordByte 24 = .ok (.goto 4, 3) := dk_167 0 4 (dk_at dksX8_isWordByte_1 0 rfl rfl)
theorem dX8_isWordByte_27 : decode cX8_isWordByte 27 = .ok (.iconst 0, 1) := dk_3 (dk_at dksX8_isWordByte_1 3 rfl rfl)
theorem dX8_isWordByte_28 : decode cX8_isWordByte 28 = .ok (.ireturn, 1) := dk_172 (dk_at dksX8_isWordByte_1 4 rfl rfl)
abbrev cX8_isDigit : ByteArray := prog_9_method_3_code
def yX8_isDigit : MethodName := ⟨RX8, "isDigit", "(I)Z"⟩
def dkwX8_isDigit_1 : List UInt8 := [167, 0, 4, 3, 172]
abbrev dktX8_isDigit_1 : List UInt8 := dkwX8_isDigit_1 ++ []
def dkwX8_isDigit_0 : List UInt8 := [27, 42, 180, 0, 15, 162, 0, 22, 42, 180, 0, 3, 180, 0, 22, 27, 51, 184, 0, 30, 153, 0, 7, 4]
abbrev dktX8_isDigit_0 : List UInt8 := dkwX8_isDigit_0 ++ dktX8_isDigit_1
theorem dksX8_isDigit_0 : cX8_isDigit.data.toList.drop 0 = dktX8_isDigit_0 := by decide +kernel
theorem dksX8_isDigit_1 : cX8_isDigit.data.toList.drop 24 = dktX8_isDigit_1 := dk_seg dksX8_isDigit_0 24 rfl rfl
theorem dX8_isDigit_0 : decode cX8_isDigit 0 = .ok (.iload_n 1, 1) := dk_27 (dk_at dksX8_isDigit_0 0 rfl rfl)
theorem dX8_isDigit_1 : decode cX8_isDigit 1 = .ok (.aload_n 0, 1) := dk_42 (dk_at dksX8_isDigit_0 1 rfl rfl)
theorem dX8_isDigit_2 : decode cX8_isDigit 2 = .ok (.getfield 15, 3) := dk_180 0 15 (dk_at dksX8_isDigit_0 2 rfl rfl)
theorem dX8_isDigit_5 : decode cX8_isDigit 5 = .ok (.if_icmp .ge 22, 3) := dk_162 0 22 (dk_at dksX8_isDigit_0 5 rfl rfl)
theorem dX8_isDigit_8 : decode cX8_isDigit 8 = .ok (.aload_n 0, 1) := dk_42 (dk_at dksX8_isDigit_0 8 rfl rfl)
theorem dX8_isDigit_9 : decode cX8_isDigit 9 = .ok (.getfield 3, 3) := dk_180 0 3 (dk_at dksX8_isDigit_0 9 rfl rfl)
theorem dX8_isDigit_12 : decode cX8_isDigit 12 = .ok (.getfield 22, 3) := dk_180 0 22 (dk_at dksX8_isDigit_0 12 rfl rfl)
theorem dX8_isDigit_15 : decode cX8_isDigit 15 = .ok (.iload_n 1, 1) := dk_27 (dk_at dksX8_isDigit_0 15 rfl rfl)
theorem dX8_isDigit_16 : decode cX8_isDigit 16 = .ok (.baload, 1) := dk_51 (dk_at dksX8_isDigit_0 16 rfl rfl)
theorem dX8_isDigit_17 : decode cX8_isDigit 17 = .ok (.invokestatic 30, 3) := dk_184 0 30 (dk_at dksX8_isDigit_0 17 rfl rfl)
theorem dX8_isDigit_20 : decode cX8_isDigit 20 = .ok (.ifCond .eq 7, 3) := dk_153 0 7 (dk_at dksX8_isDigit_0 20 rfl rfl)
theorem dX8_isDigit_23 : decode cX8_isDigit 23 = .ok (.iconst 1, 1) := dk_4 (dk_at dksX8_isDigit_0 23 rfl rfl)
theorem dX8_isDigit_24 : decode cX8_isDigit 24 = .ok (.goto 4, 3) := dk_167 0 4 (dk_at dksX8_isDigit_1 0 rfl rfl)
theorem dX8_isDigit_27 : decode cX8_isDigit 27 = .ok (.iconst 0, 1) := dk_3 (dk_at dksX8_isDigit_1 3 rfl rfl)
theorem dX8_isDigit_28 : decode cX8_isDigit 28 = .ok (.ireturn, 1) := dk_172 (dk_at dksX8_isDigit_1 4 rfl rfl)
abbrev cX8_table : ByteArray := prog_9_method_8_code
def yX8_table : MethodName := ⟨RX8, "table", "(LRaisedPress$Table;)V"⟩
def dkwX8_table_8 : List UInt8 := [177]
abbrev dktX8_table_8 : List UInt8 := dkwX8_table_8 ++ []
def dkwX8_table_7 : List UInt8 := [182, 0, 73, 191, 42, 180, 0, 42, 6, 159, 0, 8, 42, 182, 0, 73, 191, 42, 182, 0, 19, 167, 255, 71]
abbrev dktX8_table_7 : List UInt8 := dkwX8_table_7 ++ dktX8_table_8
def dkwX8_table_6 : List UInt8 := [182, 0, 104, 167, 0, 25, 42, 18, 106, 182, 0, 79, 153, 0, 11, 42, 43, 182, 0, 108, 167, 0, 8, 42]
abbrev dktX8_table_6 : List UInt8 := dkwX8_table_6 ++ dktX8_table_7
def dkwX8_table_5 : List UInt8 := [16, 63, 182, 0, 92, 181, 0, 100, 167, 0, 42, 42, 18, 102, 182, 0, 79, 153, 0, 11, 42, 43]
abbrev dktX8_table_5 : List UInt8 := dkwX8_table_5 ++ dktX8_table_6
def dkwX8_table_4 : List UInt8 := [18, 98, 182, 0, 79, 153, 0, 29, 43, 42, 43, 180, 0, 100, 155, 0, 7, 4, 167, 0, 4, 3, 4]
abbrev dktX8_table_4 : List UInt8 := dkwX8_table_4 ++ dktX8_table_5
def dkwX8_table_3 : List UInt8 := [180, 0, 97, 155, 0, 7, 4, 167, 0, 4, 3, 4, 16, 63, 182, 0, 92, 181, 0, 97, 167, 0, 77, 42]
abbrev dktX8_table_3 : List UInt8 := dkwX8_table_3 ++ dktX8_table_4
def dkwX8_table_2 : List UInt8 := [16, 63, 182, 0, 92, 181, 0, 88, 167, 0, 112, 42, 18, 96, 182, 0, 79, 153, 0, 29, 43, 42, 43]
abbrev dktX8_table_2 : List UInt8 := dkwX8_table_2 ++ dktX8_table_3
def dkwX8_table_1 : List UInt8 := [42, 18, 86, 182, 0, 79, 153, 0, 29, 43, 42, 43, 180, 0, 88, 155, 0, 7, 4, 167, 0, 4, 3, 4]
abbrev dktX8_table_1 : List UInt8 := dkwX8_table_1 ++ dktX8_table_2
def dkwX8_table_0 : List UInt8 := [42, 180, 0, 42, 153, 0, 184, 42, 18, 77, 182, 0, 79, 153, 0, 11, 42, 43, 182, 0, 83, 167, 0, 147]
abbrev dktX8_table_0 : List UInt8 := dkwX8_table_0 ++ dktX8_table_1
theorem dksX8_table_0 : cX8_table.data.toList.drop 0 = dktX8_table_0 := by decide +kernel
theorem dksX8_table_1 : cX8_table.data.toList.drop 24 = dktX8_table_1 := dk_seg dksX8_table_0 24 rfl rfl
theorem dksX8_table_2 : cX8_table.data.toList.drop 48 = dktX8_table_2 := dk_seg dksX8_table_1 24 rfl rfl
theorem dksX8_table_3 : cX8_table.data.toList.drop 71 = dktX8_table_3 := dk_seg dksX8_table_2 23 rfl rfl
theorem dksX8_table_4 : cX8_table.data.toList.drop 95 = dktX8_table_4 := dk_seg dksX8_table_3 24 rfl rfl
theorem dksX8_table_5 : cX8_table.data.toList.drop 118 = dktX8_table_5 := dk_seg dksX8_table_4 23 rfl rfl
theorem dksX8_table_6 : cX8_table.data.toList.drop 140 = dktX8_table_6 := dk_seg dksX8_table_5 22 rfl rfl
theorem dksX8_table_7 : cX8_table.data.toList.drop 164 = dktX8_table_7 := dk_seg dksX8_table_6 24 rfl rfl
theorem dksX8_table_8 : cX8_table.data.toList.drop 188 = dktX8_table_8 := dk_seg dksX8_table_7 24 rfl rfl
theorem dX8_table_0 : decode cX8_table 0 = .ok (.aload_n 0, 1) := dk_42 (dk_at dksX8_table_0 0 rfl rfl)
theorem dX8_table_1 : decode cX8_table 1 = .ok (.getfield 42, 3) := dk_180 0 42 (dk_at dksX8_table_0 1 rfl rfl)
theorem dX8_table_4 : decode cX8_table 4 = .ok (.ifCond .eq 184, 3) := dk_153 0 184 (dk_at dksX8_table_0 4 rfl rfl)
theorem dX8_table_7 : decode cX8_table 7 = .ok (.aload_n 0, 1) := dk_42 (dk_at dksX8_table_0 7 rfl rfl)
theorem dX8_table_8 : decode cX8_table 8 = .ok (.ldc 77, 2) := dk_18 77 (dk_at dksX8_table_0 8 rfl rfl)
theorem dX8_table_10 : decode cX8_table 10 = .ok (.invokevirtual 79, 3) := dk_182 0 79 (dk_at dksX8_table_0 10 rfl rfl)
theorem dX8_table_13 : decode cX8_table 13 = .ok (.ifCond .eq 11, 3) := dk_153 0 11 (dk_at dksX8_table_0 13 rfl rfl)
theorem dX8_table_16 : decode cX8_table 16 = .ok (.aload_n 0, 1) := dk_42 (dk_at dksX8_table_0 16 rfl rfl)
theorem dX8_table_17 : decode cX8_table 17 = .ok (.aload_n 1, 1) := dk_43 (dk_at dksX8_table_0 17 rfl rfl)
theorem dX8_table_18 : decode cX8_table 18 = .ok (.invokevirtual 83, 3) := dk_182 0 83 (dk_at dksX8_table_0 18 rfl rfl)
theorem dX8_table_21 : decode cX8_table 21 = .ok (.goto 147, 3) := dk_167 0 147 (dk_at dksX8_table_0 21 rfl rfl)
theorem dX8_table_24 : decode cX8_table 24 = .ok (.aload_n 0, 1) := dk_42 (dk_at dksX8_table_1 0 rfl rfl)
theorem dX8_table_25 : decode cX8_table 25 = .ok (.ldc 86, 2) := dk_18 86 (dk_at dksX8_table_1 1 rfl rfl)
theorem dX8_table_27 : decode cX8_table 27 = .ok (.invokevirtual 79, 3) := dk_182 0 79 (dk_at dksX8_table_1 3 rfl rfl)
theorem dX8_table_30 : decode cX8_table 30 = .ok (.ifCond .eq 29, 3) := dk_153 0 29 (dk_at dksX8_table_1 6 rfl rfl)
theorem dX8_table_33 : decode cX8_table 33 = .ok (.aload_n 1, 1) := dk_43 (dk_at dksX8_table_1 9 rfl rfl)
theorem dX8_table_34 : decode cX8_table 34 = .ok (.aload_n 0, 1) := dk_42 (dk_at dksX8_table_1 10 rfl rfl)
theorem dX8_table_35 : decode cX8_table 35 = .ok (.aload_n 1, 1) := dk_43 (dk_at dksX8_table_1 11 rfl rfl)
theorem dX8_table_36 : decode cX8_table 36 = .ok (.getfield 88, 3) := dk_180 0 88 (dk_at dksX8_table_1 12 rfl rfl)
theorem dX8_table_39 : decode cX8_table 39 = .ok (.ifCond .lt 7, 3) := dk_155 0 7 (dk_at dksX8_table_1 15 rfl rfl)
theorem dX8_table_42 : decode cX8_table 42 = .ok (.iconst 1, 1) := dk_4 (dk_at dksX8_table_1 18 rfl rfl)
theorem dX8_table_43 : decode cX8_table 43 = .ok (.goto 4, 3) := dk_167 0 4 (dk_at dksX8_table_1 19 rfl rfl)
theorem dX8_table_46 : decode cX8_table 46 = .ok (.iconst 0, 1) := dk_3 (dk_at dksX8_table_1 22 rfl rfl)
theorem dX8_table_47 : decode cX8_table 47 = .ok (.iconst 1, 1) := dk_4 (dk_at dksX8_table_1 23 rfl rfl)
theorem dX8_table_48 : decode cX8_table 48 = .ok (.bipush 63, 2) := dk_16 63 (dk_at dksX8_table_2 0 rfl rfl)
theorem dX8_table_50 : decode cX8_table 50 = .ok (.invokevirtual 92, 3) := dk_182 0 92 (dk_at dksX8_table_2 2 rfl rfl)
theorem dX8_table_53 : decode cX8_table 53 = .ok (.putfield 88, 3) := dk_181 0 88 (dk_at dksX8_table_2 5 rfl rfl)
theorem dX8_table_56 : decode cX8_table 56 = .ok (.goto 112, 3) := dk_167 0 112 (dk_at dksX8_table_2 8 rfl rfl)
theorem dX8_table_59 : decode cX8_table 59 = .ok (.aload_n 0, 1) := dk_42 (dk_at dksX8_table_2 11 rfl rfl)
theorem dX8_table_60 : decode cX8_table 60 = .ok (.ldc 96, 2) := dk_18 96 (dk_at dksX8_table_2 12 rfl rfl)
theorem dX8_table_62 : decode cX8_table 62 = .ok (.invokevirtual 79, 3) := dk_182 0 79 (dk_at dksX8_table_2 14 rfl rfl)
theorem dX8_table_65 : decode cX8_table 65 = .ok (.ifCond .eq 29, 3) := dk_153 0 29 (dk_at dksX8_table_2 17 rfl rfl)
theorem dX8_table_68 : decode cX8_table 68 = .ok (.aload_n 1, 1) := dk_43 (dk_at dksX8_table_2 20 rfl rfl)
theorem dX8_table_69 : decode cX8_table 69 = .ok (.aload_n 0, 1) := dk_42 (dk_at dksX8_table_2 21 rfl rfl)
theorem dX8_table_70 : decode cX8_table 70 = .ok (.aload_n 1, 1) := dk_43 (dk_at dksX8_table_2 22 rfl rfl)
theorem dX8_table_71 : decode cX8_table 71 = .ok (.getfield 97, 3) := dk_180 0 97 (dk_at dksX8_table_3 0 rfl rfl)
theorem dX8_table_74 : decode cX8_table 74 = .ok (.ifCond .lt 7, 3) := dk_155 0 7 (dk_at dksX8_table_3 3 rfl rfl)
theorem dX8_table_77 : decode cX8_table 77 = .ok (.iconst 1, 1) := dk_4 (dk_at dksX8_table_3 6 rfl rfl)
theorem dX8_table_78 : decode cX8_table 78 = .ok (.goto 4, 3) := dk_167 0 4 (dk_at dksX8_table_3 7 rfl rfl)
theorem dX8_table_81 : decode cX8_table 81 = .ok (.iconst 0, 1) := dk_3 (dk_at dksX8_table_3 10 rfl rfl)
theorem dX8_table_82 : decode cX8_table 82 = .ok (.iconst 1, 1) := dk_4 (dk_at dksX8_table_3 11 rfl rfl)
theorem dX8_table_83 : decode cX8_table 83 = .ok (.bipush 63, 2) := dk_16 63 (dk_at dksX8_table_3 12 rfl rfl)
theorem dX8_table_85 : decode cX8_table 85 = .ok (.invokevirtual 92, 3) := dk_182 0 92 (dk_at dksX8_table_3 14 rfl rfl)
theorem dX8_table_88 : decode cX8_table 88 = .ok (.putfield 97, 3) := dk_181 0 97 (dk_at dksX8_table_3 17 rfl rfl)
theorem dX8_table_91 : decode cX8_table 91 = .ok (.goto 77, 3) := dk_167 0 77 (dk_at dksX8_table_3 20 rfl rfl)
theorem dX8_table_94 : decode cX8_table 94 = .ok (.aload_n 0, 1) := dk_42 (dk_at dksX8_table_3 23 rfl rfl)
theorem dX8_table_95 : decode cX8_table 95 = .ok (.ldc 98, 2) := dk_18 98 (dk_at dksX8_table_4 0 rfl rfl)
theorem dX8_table_97 : decode cX8_table 97 = .ok (.invokevirtual 79, 3) := dk_182 0 79 (dk_at dksX8_table_4 2 rfl rfl)
theorem dX8_table_100 : decode cX8_table 100 = .ok (.ifCond .eq 29, 3) := dk_153 0 29 (dk_at dksX8_table_4 5 rfl rfl)
theorem dX8_table_103 : decode cX8_table 103 = .ok (.aload_n 1, 1) := dk_43 (dk_at dksX8_table_4 8 rfl rfl)
theorem dX8_table_104 : decode cX8_table 104 = .ok (.aload_n 0, 1) := dk_42 (dk_at dksX8_table_4 9 rfl rfl)
theorem dX8_table_105 : decode cX8_table 105 = .ok (.aload_n 1, 1) := dk_43 (dk_at dksX8_table_4 10 rfl rfl)
theorem dX8_table_106 : decode cX8_table 106 = .ok (.getfield 100, 3) := dk_180 0 100 (dk_at dksX8_table_4 11 rfl rfl)
theorem dX8_table_109 : decode cX8_table 109 = .ok (.ifCond .lt 7, 3) := dk_155 0 7 (dk_at dksX8_table_4 14 rfl rfl)
theorem dX8_table_112 : decode cX8_table 112 = .ok (.iconst 1, 1) := dk_4 (dk_at dksX8_table_4 17 rfl rfl)
theorem dX8_table_113 : decode cX8_table 113 = .ok (.goto 4, 3) := dk_167 0 4 (dk_at dksX8_table_4 18 rfl rfl)
theorem dX8_table_116 : decode cX8_table 116 = .ok (.iconst 0, 1) := dk_3 (dk_at dksX8_table_4 21 rfl rfl)
theorem dX8_table_117 : decode cX8_table 117 = .ok (.iconst 1, 1) := dk_4 (dk_at dksX8_table_4 22 rfl rfl)
theorem dX8_table_118 : decode cX8_table 118 = .ok (.bipush 63, 2) := dk_16 63 (dk_at dksX8_table_5 0 rfl rfl)
theorem dX8_table_120 : decode cX8_table 120 = .ok (.invokevirtual 92, 3) := dk_182 0 92 (dk_at dksX8_table_5 2 rfl rfl)
theorem dX8_table_123 : decode cX8_table 123 = .ok (.putfield 100, 3) := dk_181 0 100 (dk_at dksX8_table_5 5 rfl rfl)
theorem dX8_table_126 : decode cX8_table 126 = .ok (.goto 42, 3) := dk_167 0 42 (dk_at dksX8_table_5 8 rfl rfl)
theorem dX8_table_129 : decode cX8_table 129 = .ok (.aload_n 0, 1) := dk_42 (dk_at dksX8_table_5 11 rfl rfl)
theorem dX8_table_130 : decode cX8_table 130 = .ok (.ldc 102, 2) := dk_18 102 (dk_at dksX8_table_5 12 rfl rfl)
theorem dX8_table_132 : decode cX8_table 132 = .ok (.invokevirtual 79, 3) := dk_182 0 79 (dk_at dksX8_table_5 14 rfl rfl)
theorem dX8_table_135 : decode cX8_table 135 = .ok (.ifCond .eq 11, 3) := dk_153 0 11 (dk_at dksX8_table_5 17 rfl rfl)
theorem dX8_table_138 : decode cX8_table 138 = .ok (.aload_n 0, 1) := dk_42 (dk_at dksX8_table_5 20 rfl rfl)
theorem dX8_table_139 : decode cX8_table 139 = .ok (.aload_n 1, 1) := dk_43 (dk_at dksX8_table_5 21 rfl rfl)
theorem dX8_table_140 : decode cX8_table 140 = .ok (.invokevirtual 104, 3) := dk_182 0 104 (dk_at dksX8_table_6 0 rfl rfl)
theorem dX8_table_143 : decode cX8_table 143 = .ok (.goto 25, 3) := dk_167 0 25 (dk_at dksX8_table_6 3 rfl rfl)
theorem dX8_table_146 : decode cX8_table 146 = .ok (.aload_n 0, 1) := dk_42 (dk_at dksX8_table_6 6 rfl rfl)
theorem dX8_table_147 : decode cX8_table 147 = .ok (.ldc 106, 2) := dk_18 106 (dk_at dksX8_table_6 7 rfl rfl)
theorem dX8_table_149 : decode cX8_table 149 = .ok (.invokevirtual 79, 3) := dk_182 0 79 (dk_at dksX8_table_6 9 rfl rfl)
theorem dX8_table_152 : decode cX8_table 152 = .ok (.ifCond .eq 11, 3) := dk_153 0 11 (dk_at dksX8_table_6 12 rfl rfl)
theorem dX8_table_155 : decode cX8_table 155 = .ok (.aload_n 0, 1) := dk_42 (dk_at dksX8_table_6 15 rfl rfl)
theorem dX8_table_156 : decode cX8_table 156 = .ok (.aload_n 1, 1) := dk_43 (dk_at dksX8_table_6 16 rfl rfl)
theorem dX8_table_157 : decode cX8_table 157 = .ok (.invokevirtual 108, 3) := dk_182 0 108 (dk_at dksX8_table_6 17 rfl rfl)
theorem dX8_table_160 : decode cX8_table 160 = .ok (.goto 8, 3) := dk_167 0 8 (dk_at dksX8_table_6 20 rfl rfl)
theorem dX8_table_163 : decode cX8_table 163 = .ok (.aload_n 0, 1) := dk_42 (dk_at dksX8_table_6 23 rfl rfl)
theorem dX8_table_164 : decode cX8_table 164 = .ok (.invokevirtual 73, 3) := dk_182 0 73 (dk_at dksX8_table_7 0 rfl rfl)
theorem dX8_table_167 : decode cX8_table 167 = .ok (.athrow, 1) := dk_191 (dk_at dksX8_table_7 3 rfl rfl)
theorem dX8_table_168 : decode cX8_table 168 = .ok (.aload_n 0, 1) := dk_42 (dk_at dksX8_table_7 4 rfl rfl)
theorem dX8_table_169 : decode cX8_table 169 = .ok (.getfield 42, 3) := dk_180 0 42 (dk_at dksX8_table_7 5 rfl rfl)
theorem dX8_table_172 : decode cX8_table 172 = .ok (.iconst 3, 1) := dk_6 (dk_at dksX8_table_7 8 rfl rfl)
theorem dX8_table_173 : decode cX8_table 173 = .ok (.if_icmp .eq 8, 3) := dk_159 0 8 (dk_at dksX8_table_7 9 rfl rfl)
theorem dX8_table_176 : decode cX8_table 176 = .ok (.aload_n 0, 1) := dk_42 (dk_at dksX8_table_7 12 rfl rfl)
theorem dX8_table_177 : decode cX8_table 177 = .ok (.invokevirtual 73, 3) := dk_182 0 73 (dk_at dksX8_table_7 13 rfl rfl)
theorem dX8_table_180 : decode cX8_table 180 = .ok (.athrow, 1) := dk_191 (dk_at dksX8_table_7 16 rfl rfl)
theorem dX8_table_181 : decode cX8_table 181 = .ok (.aload_n 0, 1) := dk_42 (dk_at dksX8_table_7 17 rfl rfl)
theorem dX8_table_182 : decode cX8_table 182 = .ok (.invokevirtual 19, 3) := dk_182 0 19 (dk_at dksX8_table_7 18 rfl rfl)
theorem dX8_table_185 : decode cX8_table 185 = .ok (.goto (-185), 3) := dk_167 255 71 (dk_at dksX8_table_7 21 rfl rfl)
theorem dX8_table_188 : decode cX8_table 188 = .ok (.return_, 1) := dk_177 (dk_at dksX8_table_8 0 rfl rfl)
abbrev cX8_isWord : ByteArray := prog_9_method_5_code
def yX8_isWord : MethodName := ⟨RX8, "isWord", "(Ljava/lang/String;)Z"⟩
def dkwX8_isWord_2 : List UInt8 := [96, 51, 43, 28, 182, 0, 60, 159, 0, 5, 3, 172, 132, 2, 1, 167, 255, 221, 4, 172]
abbrev dktX8_isWord_2 : List UInt8 := dkwX8_isWord_2 ++ []
def dkwX8_isWord_1 : List UInt8 := [3, 172, 3, 61, 28, 43, 182, 0, 54, 162, 0, 33, 42, 180, 0, 3, 180, 0, 22, 42, 180, 0, 36, 28]
abbrev dktX8_isWord_1 : List UInt8 := dkwX8_isWord_1 ++ dktX8_isWord_2
def dkwX8_isWord_0 : List UInt8 := [42, 180, 0, 42, 4, 160, 0, 19, 42, 180, 0, 33, 42, 180, 0, 36, 100, 43, 182, 0, 54, 159, 0, 5]
abbrev dktX8_isWord_0 : List UInt8 := dkwX8_isWord_0 ++ dktX8_isWord_1
theorem dksX8_isWord_0 : cX8_isWord.data.toList.drop 0 = dktX8_isWord_0 := by decide +kernel
theorem dksX8_isWord_1 : cX8_isWord.data.toList.drop 24 = dktX8_isWord_1 := dk_seg dksX8_isWord_0 24 rfl rfl
theorem dksX8_isWord_2 : cX8_isWord.data.toList.drop 48 = dktX8_isWord_2 := dk_seg dksX8_isWord_1 24 rfl rfl
theorem dX8_isWord_0 : decode cX8_isWord 0 = .ok (.aload_n 0, 1) := dk_42 (dk_at dksX8_isWord_0 0 rfl rfl)
theorem dX8_isWord_1 : decode cX8_isWord 1 = .ok (.getfield 42, 3) := dk_180 0 42 (dk_at dksX8_isWord_0 1 rfl rfl)
theorem dX8_isWord_4 : decode cX8_isWord 4 = .ok (.iconst 1, 1) := dk_4 (dk_at dksX8_isWord_0 4 rfl rfl)
theorem dX8_isWord_5 : decode cX8_isWord 5 = .ok (.if_icmp .ne 19, 3) := dk_160 0 19 (dk_at dksX8_isWord_0 5 rfl rfl)
theorem dX8_isWord_8 : decode cX8_isWord 8 = .ok (.aload_n 0, 1) := dk_42 (dk_at dksX8_isWord_0 8 rfl rfl)
theorem dX8_isWord_9 : decode cX8_isWord 9 = .ok (.getfield 33, 3) := dk_180 0 33 (dk_at dksX8_isWord_0 9 rfl rfl)
theorem dX8_isWord_12 : decode cX8_isWord 12 = .ok (.aload_n 0, 1) := dk_42 (dk_at dksX8_isWord_0 12 rfl rfl)
theorem dX8_isWord_13 : decode cX8_isWord 13 = .ok (.getfield 36, 3) := dk_180 0 36 (dk_at dksX8_isWord_0 13 rfl rfl)
theorem dX8_isWord_16 : decode cX8_isWord 16 = .ok (.isub, 1) := dk_100 (dk_at dksX8_isWord_0 16 rfl rfl)
theorem dX8_isWord_17 : decode cX8_isWord 17 = .ok (.aload_n 1, 1) := dk_43 (dk_at dksX8_isWord_0 17 rfl rfl)
theorem dX8_isWord_18 : decode cX8_isWord 18 = .ok (.invokevirtual 54, 3) := dk_182 0 54 (dk_at dksX8_isWord_0 18 rfl rfl)
theorem dX8_isWord_21 : decode cX8_isWord 21 = .ok (.if_icmp .eq 5, 3) := dk_159 0 5 (dk_at dksX8_isWord_0 21 rfl rfl)
theorem dX8_isWord_24 : decode cX8_isWord 24 = .ok (.iconst 0, 1) := dk_3 (dk_at dksX8_isWord_1 0 rfl rfl)
theorem dX8_isWord_25 : decode cX8_isWord 25 = .ok (.ireturn, 1) := dk_172 (dk_at dksX8_isWord_1 1 rfl rfl)
theorem dX8_isWord_26 : decode cX8_isWord 26 = .ok (.iconst 0, 1) := dk_3 (dk_at dksX8_isWord_1 2 rfl rfl)
theorem dX8_isWord_27 : decode cX8_isWord 27 = .ok (.istore_n 2, 1) := dk_61 (dk_at dksX8_isWord_1 3 rfl rfl)
theorem dX8_isWord_28 : decode cX8_isWord 28 = .ok (.iload_n 2, 1) := dk_28 (dk_at dksX8_isWord_1 4 rfl rfl)
theorem dX8_isWord_29 : decode cX8_isWord 29 = .ok (.aload_n 1, 1) := dk_43 (dk_at dksX8_isWord_1 5 rfl rfl)
theorem dX8_isWord_30 : decode cX8_isWord 30 = .ok (.invokevirtual 54, 3) := dk_182 0 54 (dk_at dksX8_isWord_1 6 rfl rfl)
theorem dX8_isWord_33 : decode cX8_isWord 33 = .ok (.if_icmp .ge 33, 3) := dk_162 0 33 (dk_at dksX8_isWord_1 9 rfl rfl)
theorem dX8_isWord_36 : decode cX8_isWord 36 = .ok (.aload_n 0, 1) := dk_42 (dk_at dksX8_isWord_1 12 rfl rfl)
theorem dX8_isWord_37 : decode cX8_isWord 37 = .ok (.getfield 3, 3) := dk_180 0 3 (dk_at dksX8_isWord_1 13 rfl rfl)
theorem dX8_isWord_40 : decode cX8_isWord 40 = .ok (.getfield 22, 3) := dk_180 0 22 (dk_at dksX8_isWord_1 16 rfl rfl)
theorem dX8_isWord_43 : decode cX8_isWord 43 = .ok (.aload_n 0, 1) := dk_42 (dk_at dksX8_isWord_1 19 rfl rfl)
theorem dX8_isWord_44 : decode cX8_isWord 44 = .ok (.getfield 36, 3) := dk_180 0 36 (dk_at dksX8_isWord_1 20 rfl rfl)
theorem dX8_isWord_47 : decode cX8_isWord 47 = .ok (.iload_n 2, 1) := dk_28 (dk_at dksX8_isWord_1 23 rfl rfl)
theorem dX8_isWord_48 : decode cX8_isWord 48 = .ok (.iadd, 1) := dk_96 (dk_at dksX8_isWord_2 0 rfl rfl)
theorem dX8_isWord_49 : decode cX8_isWord 49 = .ok (.baload, 1) := dk_51 (dk_at dksX8_isWord_2 1 rfl rfl)
theorem dX8_isWord_50 : decode cX8_isWord 50 = .ok (.aload_n 1, 1) := dk_43 (dk_at dksX8_isWord_2 2 rfl rfl)
theorem dX8_isWord_51 : decode cX8_isWord 51 = .ok (.iload_n 2, 1) := dk_28 (dk_at dksX8_isWord_2 3 rfl rfl)
theorem dX8_isWord_52 : decode cX8_isWord 52 = .ok (.invokevirtual 60, 3) := dk_182 0 60 (dk_at dksX8_isWord_2 4 rfl rfl)
theorem dX8_isWord_55 : decode cX8_isWord 55 = .ok (.if_icmp .eq 5, 3) := dk_159 0 5 (dk_at dksX8_isWord_2 7 rfl rfl)
theorem dX8_isWord_58 : decode cX8_isWord 58 = .ok (.iconst 0, 1) := dk_3 (dk_at dksX8_isWord_2 10 rfl rfl)
theorem dX8_isWord_59 : decode cX8_isWord 59 = .ok (.ireturn, 1) := dk_172 (dk_at dksX8_isWord_2 11 rfl rfl)
theorem dX8_isWord_60 : decode cX8_isWord 60 = .ok (.iinc 2 1, 3) := dk_132 2 1 (dk_at dksX8_isWord_2 12 rfl rfl)
theorem dX8_isWord_63 : decode cX8_isWord 63 = .ok (.goto (-35), 3) := dk_167 255 221 (dk_at dksX8_isWord_2 15 rfl rfl)
theorem dX8_isWord_66 : decode cX8_isWord 66 = .ok (.iconst 1, 1) := dk_4 (dk_at dksX8_isWord_2 18 rfl rfl)
theorem dX8_isWord_67 : decode cX8_isWord 67 = .ok (.ireturn, 1) := dk_172 (dk_at dksX8_isWord_2 19 rfl rfl)
abbrev cX8_rule : ByteArray := prog_9_method_12_code
def yX8_rule : MethodName := ⟨RX8, "rule", "(LRaisedPress$Table;)V"⟩
def dkwX8_rule_11 : List UInt8 := [83, 43, 89, 180, 0, 124, 4, 96, 181, 0, 124, 177]
abbrev dktX8_rule_11 : List UInt8 := dkwX8_rule_11 ++ []
def dkwX8_rule_10 : List UInt8 := [42, 180, 0, 36, 182, 0, 68, 191, 132, 7, 1, 167, 255, 205, 43, 180, 0, 137, 43, 180, 0, 124, 25, 6]
abbrev dktX8_rule_10 : List UInt8 := dkwX8_rule_10 ++ dktX8_rule_11
def dkwX8_rule_9 : List UInt8 := [25, 6, 182, 0, 141, 153, 0, 27, 42, 180, 0, 42, 6, 160, 0, 19, 42, 180, 0, 3, 180, 0, 64, 6]
abbrev dktX8_rule_9 : List UInt8 := dkwX8_rule_9 ++ dktX8_rule_10
def dkwX8_rule_8 : List UInt8 := [182, 0, 133, 58, 6, 3, 54, 7, 21, 7, 43, 180, 0, 124, 162, 0, 48, 43, 180, 0, 137, 21, 7, 50]
abbrev dktX8_rule_8 : List UInt8 := dkwX8_rule_8 ++ dktX8_rule_9
def dkwX8_rule_7 : List UInt8 := [159, 255, 207, 21, 4, 188, 10, 58, 5, 45, 3, 25, 5, 3, 21, 4, 184, 0, 125, 42, 44, 25, 5]
abbrev dktX8_rule_7 : List UInt8 := dkwX8_rule_7 ++ dktX8_rule_8
def dkwX8_rule_6 : List UInt8 := [180, 0, 64, 8, 21, 5, 182, 0, 68, 191, 45, 21, 4, 21, 6, 79, 132, 4, 1, 42, 180, 0, 42, 5]
abbrev dktX8_rule_6 : List UInt8 := dkwX8_rule_6 ++ dktX8_rule_7
def dkwX8_rule_5 : List UInt8 := [180, 0, 36, 54, 5, 42, 4, 16, 63, 182, 0, 110, 54, 6, 21, 4, 6, 160, 0, 17, 42, 180, 0, 3]
abbrev dktX8_rule_5 : List UInt8 := dkwX8_rule_5 ++ dktX8_rule_6
def dkwX8_rule_4 : List UInt8 := [182, 0, 79, 154, 0, 8, 42, 182, 0, 73, 191, 42, 182, 0, 19, 6, 188, 10, 78, 3, 54, 4, 42]
abbrev dktX8_rule_4 : List UInt8 := dkwX8_rule_4 ++ dktX8_rule_5
def dkwX8_rule_3 : List UInt8 := [180, 0, 3, 180, 0, 22, 42, 180, 0, 36, 44, 3, 44, 190, 184, 0, 125, 42, 182, 0, 19, 42, 18, 131]
abbrev dktX8_rule_3 : List UInt8 := dkwX8_rule_3 ++ dktX8_rule_4
def dkwX8_rule_2 : List UInt8 := [100, 16, 6, 164, 0, 8, 42, 182, 0, 73, 191, 42, 180, 0, 33, 42, 180, 0, 36, 100, 188, 8, 77, 42]
abbrev dktX8_rule_2 : List UInt8 := dkwX8_rule_2 ++ dktX8_rule_3
def dkwX8_rule_1 : List UInt8 := [182, 0, 68, 191, 42, 182, 0, 19, 42, 180, 0, 42, 4, 160, 0, 17, 42, 180, 0, 33, 42, 180, 0, 36]
abbrev dktX8_rule_1 : List UInt8 := dkwX8_rule_1 ++ dktX8_rule_2
def dkwX8_rule_0 : List UInt8 := [43, 180, 0, 124, 16, 24, 160, 0, 20, 42, 180, 0, 3, 180, 0, 64, 16, 6, 42, 180, 0, 36]
abbrev dktX8_rule_0 : List UInt8 := dkwX8_rule_0 ++ dktX8_rule_1
theorem dksX8_rule_0 : cX8_rule.data.toList.drop 0 = dktX8_rule_0 := by decide +kernel
theorem dksX8_rule_1 : cX8_rule.data.toList.drop 22 = dktX8_rule_1 := dk_seg dksX8_rule_0 22 rfl rfl
theorem dksX8_rule_2 : cX8_rule.data.toList.drop 46 = dktX8_rule_2 := dk_seg dksX8_rule_1 24 rfl rfl
theorem dksX8_rule_3 : cX8_rule.data.toList.drop 70 = dktX8_rule_3 := dk_seg dksX8_rule_2 24 rfl rfl
theorem dksX8_rule_4 : cX8_rule.data.toList.drop 94 = dktX8_rule_4 := dk_seg dksX8_rule_3 24 rfl rfl
theorem dksX8_rule_5 : cX8_rule.data.toList.drop 117 = dktX8_rule_5 := dk_seg dksX8_rule_4 23 rfl rfl
theorem dksX8_rule_6 : cX8_rule.data.toList.drop 141 = dktX8_rule_6 := dk_seg dksX8_rule_5 24 rfl rfl
theorem dksX8_rule_7 : cX8_rule.data.toList.drop 165 = dktX8_rule_7 := dk_seg dksX8_rule_6 24 rfl rfl
theorem dksX8_rule_8 : cX8_rule.data.toList.drop 188 = dktX8_rule_8 := dk_seg dksX8_rule_7 23 rfl rfl
theorem dksX8_rule_9 : cX8_rule.data.toList.drop 212 = dktX8_rule_9 := dk_seg dksX8_rule_8 24 rfl rfl
theorem dksX8_rule_10 : cX8_rule.data.toList.drop 236 = dktX8_rule_10 := dk_seg dksX8_rule_9 24 rfl rfl
theorem dksX8_rule_11 : cX8_rule.data.toList.drop 260 = dktX8_rule_11 := dk_seg dksX8_rule_10 24 rfl rfl
theorem dX8_rule_0 : decode cX8_rule 0 = .ok (.aload_n 1, 1) := dk_43 (dk_at dksX8_rule_0 0 rfl rfl)
theorem dX8_rule_1 : decode cX8_rule 1 = .ok (.getfield 124, 3) := dk_180 0 124 (dk_at dksX8_rule_0 1 rfl rfl)
theorem dX8_rule_4 : decode cX8_rule 4 = .ok (.bipush 24, 2) := dk_16 24 (dk_at dksX8_rule_0 4 rfl rfl)
theorem dX8_rule_6 : decode cX8_rule 6 = .ok (.if_icmp .ne 20, 3) := dk_160 0 20 (dk_at dksX8_rule_0 6 rfl rfl)
theorem dX8_rule_9 : decode cX8_rule 9 = .ok (.aload_n 0, 1) := dk_42 (dk_at dksX8_rule_0 9 rfl rfl)
theorem dX8_rule_10 : decode cX8_rule 10 = .ok (.getfield 3, 3) := dk_180 0 3 (dk_at dksX8_rule_0 10 rfl rfl)
theorem dX8_rule_13 : decode cX8_rule 13 = .ok (.getfield 64, 3) := dk_180 0 64 (dk_at dksX8_rule_0 13 rfl rfl)
theorem dX8_rule_16 : decode cX8_rule 16 = .ok (.bipush 6, 2) := dk_16 6 (dk_at dksX8_rule_0 16 rfl rfl)
theorem dX8_rule_18 : decode cX8_rule 18 = .ok (.aload_n 0, 1) := dk_42 (dk_at dksX8_rule_0 18 rfl rfl)
theorem dX8_rule_19 : decode cX8_rule 19 = .ok (.getfield 36, 3) := dk_180 0 36 (dk_at dksX8_rule_0 19 rfl rfl)
theorem dX8_rule_22 : decode cX8_rule 22 = .ok (.invokevirtual 68, 3) := dk_182 0 68 (dk_at dksX8_rule_1 0 rfl rfl)
theorem dX8_rule_25 : decode cX8_rule 25 = .ok (.athrow, 1) := dk_191 (dk_at dksX8_rule_1 3 rfl rfl)
theorem dX8_rule_26 : decode cX8_rule 26 = .ok (.aload_n 0, 1) := dk_42 (dk_at dksX8_rule_1 4 rfl rfl)
theorem dX8_rule_27 : decode cX8_rule 27 = .ok (.invokevirtual 19, 3) := dk_182 0 19 (dk_at dksX8_rule_1 5 rfl rfl)
theorem dX8_rule_30 : decode cX8_rule 30 = .ok (.aload_n 0, 1) := dk_42 (dk_at dksX8_rule_1 8 rfl rfl)
theorem dX8_rule_31 : decode cX8_rule 31 = .ok (.getfield 42, 3) := dk_180 0 42 (dk_at dksX8_rule_1 9 rfl rfl)
theorem dX8_rule_34 : decode cX8_rule 34 = .ok (.iconst 1, 1) := dk_4 (dk_at dksX8_rule_1 12 rfl rfl)
theorem dX8_rule_35 : decode cX8_rule 35 = .ok (.if_icmp .ne 17, 3) := dk_160 0 17 (dk_at dksX8_rule_1 13 rfl rfl)
theorem dX8_rule_38 : decode cX8_rule 38 = .ok (.aload_n 0, 1) := dk_42 (dk_at dksX8_rule_1 16 rfl rfl)
theorem dX8_rule_39 : decode cX8_rule 39 = .ok (.getfield 33, 3) := dk_180 0 33 (dk_at dksX8_rule_1 17 rfl rfl)
theorem dX8_rule_42 : decode cX8_rule 42 = .ok (.aload_n 0, 1) := dk_42 (dk_at dksX8_rule_1 20 rfl rfl)
theorem dX8_rule_43 : decode cX8_rule 43 = .ok (.getfield 36, 3) := dk_180 0 36 (dk_at dksX8_rule_1 21 rfl rfl)
theorem dX8_rule_46 : decode cX8_rule 46 = .ok (.isub, 1) := dk_100 (dk_at dksX8_rule_2 0 rfl rfl)
theorem dX8_rule_47 : decode cX8_rule 47 = .ok (.bipush 6, 2) := dk_16 6 (dk_at dksX8_rule_2 1 rfl rfl)
theorem dX8_rule_49 : decode cX8_rule 49 = .ok (.if_icmp .le 8, 3) := dk_164 0 8 (dk_at dksX8_rule_2 3 rfl rfl)
theorem dX8_rule_52 : decode cX8_rule 52 = .ok (.aload_n 0, 1) := dk_42 (dk_at dksX8_rule_2 6 rfl rfl)
theorem dX8_rule_53 : decode cX8_rule 53 = .ok (.invokevirtual 73, 3) := dk_182 0 73 (dk_at dksX8_rule_2 7 rfl rfl)
theorem dX8_rule_56 : decode cX8_rule 56 = .ok (.athrow, 1) := dk_191 (dk_at dksX8_rule_2 10 rfl rfl)
theorem dX8_rule_57 : decode cX8_rule 57 = .ok (.aload_n 0, 1) := dk_42 (dk_at dksX8_rule_2 11 rfl rfl)
theorem dX8_rule_58 : decode cX8_rule 58 = .ok (.getfield 33, 3) := dk_180 0 33 (dk_at dksX8_rule_2 12 rfl rfl)
theorem dX8_rule_61 : decode cX8_rule 61 = .ok (.aload_n 0, 1) := dk_42 (dk_at dksX8_rule_2 15 rfl rfl)
theorem dX8_rule_62 : decode cX8_rule 62 = .ok (.getfield 36, 3) := dk_180 0 36 (dk_at dksX8_rule_2 16 rfl rfl)
theorem dX8_rule_65 : decode cX8_rule 65 = .ok (.isub, 1) := dk_100 (dk_at dksX8_rule_2 19 rfl rfl)
theorem dX8_rule_66 : decode cX8_rule 66 = .ok (.newarray .byte, 2) := dk_188_8 (dk_at dksX8_rule_2 20 rfl rfl)
theorem dX8_rule_68 : decode cX8_rule 68 = .ok (.astore_n 2, 1) := dk_77 (dk_at dksX8_rule_2 22 rfl rfl)
theorem dX8_rule_69 : decode cX8_rule 69 = .ok (.aload_n 0, 1) := dk_42 (dk_at dksX8_rule_2 23 rfl rfl)
theorem dX8_rule_70 : decode cX8_rule 70 = .ok (.getfield 3, 3) := dk_180 0 3 (dk_at dksX8_rule_3 0 rfl rfl)
theorem dX8_rule_73 : decode cX8_rule 73 = .ok (.getfield 22, 3) := dk_180 0 22 (dk_at dksX8_rule_3 3 rfl rfl)
theorem dX8_rule_76 : decode cX8_rule 76 = .ok (.aload_n 0, 1) := dk_42 (dk_at dksX8_rule_3 6 rfl rfl)
theorem dX8_rule_77 : decode cX8_rule 77 = .ok (.getfield 36, 3) := dk_180 0 36 (dk_at dksX8_rule_3 7 rfl rfl)
theorem dX8_rule_80 : decode cX8_rule 80 = .ok (.aload_n 2, 1) := dk_44 (dk_at dksX8_rule_3 10 rfl rfl)
theorem dX8_rule_81 : decode cX8_rule 81 = .ok (.iconst 0, 1) := dk_3 (dk_at dksX8_rule_3 11 rfl rfl)
theorem dX8_rule_82 : decode cX8_rule 82 = .ok (.aload_n 2, 1) := dk_44 (dk_at dksX8_rule_3 12 rfl rfl)
theorem dX8_rule_83 : decode cX8_rule 83 = .ok (.arraylength, 1) := dk_190 (dk_at dksX8_rule_3 13 rfl rfl)
theorem dX8_rule_84 : decode cX8_rule 84 = .ok (.invokestatic 125, 3) := dk_184 0 125 (dk_at dksX8_rule_3 14 rfl rfl)
theorem dX8_rule_87 : decode cX8_rule 87 = .ok (.aload_n 0, 1) := dk_42 (dk_at dksX8_rule_3 17 rfl rfl)
theorem dX8_rule_88 : decode cX8_rule 88 = .ok (.invokevirtual 19, 3) := dk_182 0 19 (dk_at dksX8_rule_3 18 rfl rfl)
theorem dX8_rule_91 : decode cX8_rule 91 = .ok (.aload_n 0, 1) := dk_42 (dk_at dksX8_rule_3 21 rfl rfl)
theorem dX8_rule_92 : decode cX8_rule 92 = .ok (.ldc 131, 2) := dk_18 131 (dk_at dksX8_rule_3 22 rfl rfl)
theorem dX8_rule_94 : decode cX8_rule 94 = .ok (.invokevirtual 79, 3) := dk_182 0 79 (dk_at dksX8_rule_4 0 rfl rfl)
theorem dX8_rule_97 : decode cX8_rule 97 = .ok (.ifCond .ne 8, 3) := dk_154 0 8 (dk_at dksX8_rule_4 3 rfl rfl)
theorem dX8_rule_100 : decode cX8_rule 100 = .ok (.aload_n 0, 1) := dk_42 (dk_at dksX8_rule_4 6 rfl rfl)
theorem dX8_rule_101 : decode cX8_rule 101 = .ok (.invokevirtual 73, 3) := dk_182 0 73 (dk_at dksX8_rule_4 7 rfl rfl)
theorem dX8_rule_104 : decode cX8_rule 104 = .ok (.athrow, 1) := dk_191 (dk_at dksX8_rule_4 10 rfl rfl)
theorem dX8_rule_105 : decode cX8_rule 105 = .ok (.aload_n 0, 1) := dk_42 (dk_at dksX8_rule_4 11 rfl rfl)
theorem dX8_rule_106 : decode cX8_rule 106 = .ok (.invokevirtual 19, 3) := dk_182 0 19 (dk_at dksX8_rule_4 12 rfl rfl)
theorem dX8_rule_109 : decode cX8_rule 109 = .ok (.iconst 3, 1) := dk_6 (dk_at dksX8_rule_4 15 rfl rfl)
theorem dX8_rule_110 : decode cX8_rule 110 = .ok (.newarray .int, 2) := dk_188_10 (dk_at dksX8_rule_4 16 rfl rfl)
theorem dX8_rule_112 : decode cX8_rule 112 = .ok (.astore_n 3, 1) := dk_78 (dk_at dksX8_rule_4 18 rfl rfl)
theorem dX8_rule_113 : decode cX8_rule 113 = .ok (.iconst 0, 1) := dk_3 (dk_at dksX8_rule_4 19 rfl rfl)
theorem dX8_rule_114 : decode cX8_rule 114 = .ok (.istore 4, 2) := dk_54 4 (dk_at dksX8_rule_4 20 rfl rfl)
theorem dX8_rule_116 : decode cX8_rule 116 = .ok (.aload_n 0, 1) := dk_42 (dk_at dksX8_rule_4 22 rfl rfl)
theorem dX8_rule_117 : decode cX8_rule 117 = .ok (.getfield 36, 3) := dk_180 0 36 (dk_at dksX8_rule_5 0 rfl rfl)
theorem dX8_rule_120 : decode cX8_rule 120 = .ok (.istore 5, 2) := dk_54 5 (dk_at dksX8_rule_5 3 rfl rfl)
theorem dX8_rule_122 : decode cX8_rule 122 = .ok (.aload_n 0, 1) := dk_42 (dk_at dksX8_rule_5 5 rfl rfl)
theorem dX8_rule_123 : decode cX8_rule 123 = .ok (.iconst 1, 1) := dk_4 (dk_at dksX8_rule_5 6 rfl rfl)
theorem dX8_rule_124 : decode cX8_rule 124 = .ok (.bipush 63, 2) := dk_16 63 (dk_at dksX8_rule_5 7 rfl rfl)
theorem dX8_rule_126 : decode cX8_rule 126 = .ok (.invokevirtual 110, 3) := dk_182 0 110 (dk_at dksX8_rule_5 9 rfl rfl)
theorem dX8_rule_129 : decode cX8_rule 129 = .ok (.istore 6, 2) := dk_54 6 (dk_at dksX8_rule_5 12 rfl rfl)
theorem dX8_rule_131 : decode cX8_rule 131 = .ok (.iload 4, 2) := dk_21 4 (dk_at dksX8_rule_5 14 rfl rfl)
theorem dX8_rule_133 : decode cX8_rule 133 = .ok (.iconst 3, 1) := dk_6 (dk_at dksX8_rule_5 16 rfl rfl)
theorem dX8_rule_134 : decode cX8_rule 134 = .ok (.if_icmp .ne 17, 3) := dk_160 0 17 (dk_at dksX8_rule_5 17 rfl rfl)
theorem dX8_rule_137 : decode cX8_rule 137 = .ok (.aload_n 0, 1) := dk_42 (dk_at dksX8_rule_5 20 rfl rfl)
theorem dX8_rule_138 : decode cX8_rule 138 = .ok (.getfield 3, 3) := dk_180 0 3 (dk_at dksX8_rule_5 21 rfl rfl)
theorem dX8_rule_141 : decode cX8_rule 141 = .ok (.getfield 64, 3) := dk_180 0 64 (dk_at dksX8_rule_6 0 rfl rfl)
theorem dX8_rule_144 : decode cX8_rule 144 = .ok (.iconst 5, 1) := dk_8 (dk_at dksX8_rule_6 3 rfl rfl)
theorem dX8_rule_145 : decode cX8_rule 145 = .ok (.iload 5, 2) := dk_21 5 (dk_at dksX8_rule_6 4 rfl rfl)
theorem dX8_rule_147 : decode cX8_rule 147 = .ok (.invokevirtual 68, 3) := dk_182 0 68 (dk_at dksX8_rule_6 6 rfl rfl)
theorem dX8_rule_150 : decode cX8_rule 150 = .ok (.athrow, 1) := dk_191 (dk_at dksX8_rule_6 9 rfl rfl)
theorem dX8_rule_151 : decode cX8_rule 151 = .ok (.aload_n 3, 1) := dk_45 (dk_at dksX8_rule_6 10 rfl rfl)
theorem dX8_rule_152 : decode cX8_rule 152 = .ok (.iload 4, 2) := dk_21 4 (dk_at dksX8_rule_6 11 rfl rfl)
theorem dX8_rule_154 : decode cX8_rule 154 = .ok (.iload 6, 2) := dk_21 6 (dk_at dksX8_rule_6 13 rfl rfl)
theorem dX8_rule_156 : decode cX8_rule 156 = .ok (.iastore, 1) := dk_79 (dk_at dksX8_rule_6 15 rfl rfl)
theorem dX8_rule_157 : decode cX8_rule 157 = .ok (.iinc 4 1, 3) := dk_132 4 1 (dk_at dksX8_rule_6 16 rfl rfl)
theorem dX8_rule_160 : decode cX8_rule 160 = .ok (.aload_n 0, 1) := dk_42 (dk_at dksX8_rule_6 19 rfl rfl)
theorem dX8_rule_161 : decode cX8_rule 161 = .ok (.getfield 42, 3) := dk_180 0 42 (dk_at dksX8_rule_6 20 rfl rfl)
theorem dX8_rule_164 : decode cX8_rule 164 = .ok (.iconst 2, 1) := dk_5 (dk_at dksX8_rule_6 23 rfl rfl)
theorem dX8_rule_165 : decode cX8_rule 165 = .ok (.if_icmp .eq (-49), 3) := dk_159 255 207 (dk_at dksX8_rule_7 0 rfl rfl)
theorem dX8_rule_168 : decode cX8_rule 168 = .ok (.iload 4, 2) := dk_21 4 (dk_at dksX8_rule_7 3 rfl rfl)
theorem dX8_rule_170 : decode cX8_rule 170 = .ok (.newarray .int, 2) := dk_188_10 (dk_at dksX8_rule_7 5 rfl rfl)
theorem dX8_rule_172 : decode cX8_rule 172 = .ok (.astore 5, 2) := dk_58 5 (dk_at dksX8_rule_7 7 rfl rfl)
theorem dX8_rule_174 : decode cX8_rule 174 = .ok (.aload_n 3, 1) := dk_45 (dk_at dksX8_rule_7 9 rfl rfl)
theorem dX8_rule_175 : decode cX8_rule 175 = .ok (.iconst 0, 1) := dk_3 (dk_at dksX8_rule_7 10 rfl rfl)
theorem dX8_rule_176 : decode cX8_rule 176 = .ok (.aload 5, 2) := dk_25 5 (dk_at dksX8_rule_7 11 rfl rfl)
theorem dX8_rule_178 : decode cX8_rule 178 = .ok (.iconst 0, 1) := dk_3 (dk_at dksX8_rule_7 13 rfl rfl)
theorem dX8_rule_179 : decode cX8_rule 179 = .ok (.iload 4, 2) := dk_21 4 (dk_at dksX8_rule_7 14 rfl rfl)
theorem dX8_rule_181 : decode cX8_rule 181 = .ok (.invokestatic 125, 3) := dk_184 0 125 (dk_at dksX8_rule_7 16 rfl rfl)
theorem dX8_rule_184 : decode cX8_rule 184 = .ok (.aload_n 0, 1) := dk_42 (dk_at dksX8_rule_7 19 rfl rfl)
theorem dX8_rule_185 : decode cX8_rule 185 = .ok (.aload_n 2, 1) := dk_44 (dk_at dksX8_rule_7 20 rfl rfl)
theorem dX8_rule_186 : decode cX8_rule 186 = .ok (.aload 5, 2) := dk_25 5 (dk_at dksX8_rule_7 21 rfl rfl)
theorem dX8_rule_188 : decode cX8_rule 188 = .ok (.invokevirtual 133, 3) := dk_182 0 133 (dk_at dksX8_rule_8 0 rfl rfl)
theorem dX8_rule_191 : decode cX8_rule 191 = .ok (.astore 6, 2) := dk_58 6 (dk_at dksX8_rule_8 3 rfl rfl)
theorem dX8_rule_193 : decode cX8_rule 193 = .ok (.iconst 0, 1) := dk_3 (dk_at dksX8_rule_8 5 rfl rfl)
theorem dX8_rule_194 : decode cX8_rule 194 = .ok (.istore 7, 2) := dk_54 7 (dk_at dksX8_rule_8 6 rfl rfl)
theorem dX8_rule_196 : decode cX8_rule 196 = .ok (.iload 7, 2) := dk_21 7 (dk_at dksX8_rule_8 8 rfl rfl)
theorem dX8_rule_198 : decode cX8_rule 198 = .ok (.aload_n 1, 1) := dk_43 (dk_at dksX8_rule_8 10 rfl rfl)
theorem dX8_rule_199 : decode cX8_rule 199 = .ok (.getfield 124, 3) := dk_180 0 124 (dk_at dksX8_rule_8 11 rfl rfl)
theorem dX8_rule_202 : decode cX8_rule 202 = .ok (.if_icmp .ge 48, 3) := dk_162 0 48 (dk_at dksX8_rule_8 14 rfl rfl)
theorem dX8_rule_205 : decode cX8_rule 205 = .ok (.aload_n 1, 1) := dk_43 (dk_at dksX8_rule_8 17 rfl rfl)
theorem dX8_rule_206 : decode cX8_rule 206 = .ok (.getfield 137, 3) := dk_180 0 137 (dk_at dksX8_rule_8 18 rfl rfl)
theorem dX8_rule_209 : decode cX8_rule 209 = .ok (.iload 7, 2) := dk_21 7 (dk_at dksX8_rule_8 21 rfl rfl)
theorem dX8_rule_211 : decode cX8_rule 211 = .ok (.aaload, 1) := dk_50 (dk_at dksX8_rule_8 23 rfl rfl)
theorem dX8_rule_212 : decode cX8_rule 212 = .ok (.aload 6, 2) := dk_25 6 (dk_at dksX8_rule_9 0 rfl rfl)
theorem dX8_rule_214 : decode cX8_rule 214 = .ok (.invokevirtual 141, 3) := dk_182 0 141 (dk_at dksX8_rule_9 2 rfl rfl)
theorem dX8_rule_217 : decode cX8_rule 217 = .ok (.ifCond .eq 27, 3) := dk_153 0 27 (dk_at dksX8_rule_9 5 rfl rfl)
theorem dX8_rule_220 : decode cX8_rule 220 = .ok (.aload_n 0, 1) := dk_42 (dk_at dksX8_rule_9 8 rfl rfl)
theorem dX8_rule_221 : decode cX8_rule 221 = .ok (.getfield 42, 3) := dk_180 0 42 (dk_at dksX8_rule_9 9 rfl rfl)
theorem dX8_rule_224 : decode cX8_rule 224 = .ok (.iconst 3, 1) := dk_6 (dk_at dksX8_rule_9 12 rfl rfl)
theorem dX8_rule_225 : decode cX8_rule 225 = .ok (.if_icmp .ne 19, 3) := dk_160 0 19 (dk_at dksX8_rule_9 13 rfl rfl)
theorem dX8_rule_228 : decode cX8_rule 228 = .ok (.aload_n 0, 1) := dk_42 (dk_at dksX8_rule_9 16 rfl rfl)
theorem dX8_rule_229 : decode cX8_rule 229 = .ok (.getfield 3, 3) := dk_180 0 3 (dk_at dksX8_rule_9 17 rfl rfl)
theorem dX8_rule_232 : decode cX8_rule 232 = .ok (.getfield 64, 3) := dk_180 0 64 (dk_at dksX8_rule_9 20 rfl rfl)
theorem dX8_rule_235 : decode cX8_rule 235 = .ok (.iconst 3, 1) := dk_6 (dk_at dksX8_rule_9 23 rfl rfl)
theorem dX8_rule_236 : decode cX8_rule 236 = .ok (.aload_n 0, 1) := dk_42 (dk_at dksX8_rule_10 0 rfl rfl)
theorem dX8_rule_237 : decode cX8_rule 237 = .ok (.getfield 36, 3) := dk_180 0 36 (dk_at dksX8_rule_10 1 rfl rfl)
theorem dX8_rule_240 : decode cX8_rule 240 = .ok (.invokevirtual 68, 3) := dk_182 0 68 (dk_at dksX8_rule_10 4 rfl rfl)
theorem dX8_rule_243 : decode cX8_rule 243 = .ok (.athrow, 1) := dk_191 (dk_at dksX8_rule_10 7 rfl rfl)
theorem dX8_rule_244 : decode cX8_rule 244 = .ok (.iinc 7 1, 3) := dk_132 7 1 (dk_at dksX8_rule_10 8 rfl rfl)
theorem dX8_rule_247 : decode cX8_rule 247 = .ok (.goto (-51), 3) := dk_167 255 205 (dk_at dksX8_rule_10 11 rfl rfl)
theorem dX8_rule_250 : decode cX8_rule 250 = .ok (.aload_n 1, 1) := dk_43 (dk_at dksX8_rule_10 14 rfl rfl)
theorem dX8_rule_251 : decode cX8_rule 251 = .ok (.getfield 137, 3) := dk_180 0 137 (dk_at dksX8_rule_10 15 rfl rfl)
theorem dX8_rule_254 : decode cX8_rule 254 = .ok (.aload_n 1, 1) := dk_43 (dk_at dksX8_rule_10 18 rfl rfl)
theorem dX8_rule_255 : decode cX8_rule 255 = .ok (.getfield 124, 3) := dk_180 0 124 (dk_at dksX8_rule_10 19 rfl rfl)
theorem dX8_rule_258 : decode cX8_rule 258 = .ok (.aload 6, 2) := dk_25 6 (dk_at dksX8_rule_10 22 rfl rfl)
theorem dX8_rule_260 : decode cX8_rule 260 = .ok (.aastore, 1) := dk_83 (dk_at dksX8_rule_11 0 rfl rfl)
theorem dX8_rule_261 : decode cX8_rule 261 = .ok (.aload_n 1, 1) := dk_43 (dk_at dksX8_rule_11 1 rfl rfl)
theorem dX8_rule_262 : decode cX8_rule 262 = .ok (.dup, 1) := dk_89 (dk_at dksX8_rule_11 2 rfl rfl)
theorem dX8_rule_263 : decode cX8_rule 263 = .ok (.getfield 124, 3) := dk_180 0 124 (dk_at dksX8_rule_11 3 rfl rfl)
theorem dX8_rule_266 : decode cX8_rule 266 = .ok (.iconst 1, 1) := dk_4 (dk_at dksX8_rule_11 6 rfl rfl)
theorem dX8_rule_267 : decode cX8_rule 267 = .ok (.iadd, 1) := dk_96 (dk_at dksX8_rule_11 7 rfl rfl)
theorem dX8_rule_268 : decode cX8_rule 268 = .ok (.putfield 124, 3) := dk_181 0 124 (dk_at dksX8_rule_11 8 rfl rfl)
theorem dX8_rule_271 : decode cX8_rule 271 = .ok (.return_, 1) := dk_177 (dk_at dksX8_rule_11 11 rfl rfl)
abbrev cX8_wrong : ByteArray := prog_9_method_6_code
def yX8_wrong : MethodName := ⟨RX8, "wrong", "()LRaisedPress$Bad;"⟩
def dkwX8_wrong_1 : List UInt8 := [182, 0, 68, 176]
abbrev dktX8_wrong_1 : List UInt8 := dkwX8_wrong_1 ++ []
def dkwX8_wrong_0 : List UInt8 := [42, 180, 0, 3, 180, 0, 64, 42, 180, 0, 42, 7, 160, 0, 7, 4, 167, 0, 4, 5, 42, 180, 0, 36]
abbrev dktX8_wrong_0 : List UInt8 := dkwX8_wrong_0 ++ dktX8_wrong_1
theorem dksX8_wrong_0 : cX8_wrong.data.toList.drop 0 = dktX8_wrong_0 := by decide +kernel
theorem dksX8_wrong_1 : cX8_wrong.data.toList.drop 24 = dktX8_wrong_1 := dk_seg dksX8_wrong_0 24 rfl rfl
theorem dX8_wrong_0 : decode cX8_wrong 0 = .ok (.aload_n 0, 1) := dk_42 (dk_at dksX8_wrong_0 0 rfl rfl)
theorem dX8_wrong_1 : decode cX8_wrong 1 = .ok (.getfield 3, 3) := dk_180 0 3 (dk_at dksX8_wrong_0 1 rfl rfl)
theorem dX8_wrong_4 : decode cX8_wrong 4 = .ok (.getfield 64, 3) := dk_180 0 64 (dk_at dksX8_wrong_0 4 rfl rfl)
theorem dX8_wrong_7 : decode cX8_wrong 7 = .ok (.aload_n 0, 1) := dk_42 (dk_at dksX8_wrong_0 7 rfl rfl)
theorem dX8_wrong_8 : decode cX8_wrong 8 = .ok (.getfield 42, 3) := dk_180 0 42 (dk_at dksX8_wrong_0 8 rfl rfl)
theorem dX8_wrong_11 : decode cX8_wrong 11 = .ok (.iconst 4, 1) := dk_7 (dk_at dksX8_wrong_0 11 rfl rfl)
theorem dX8_wrong_12 : decode cX8_wrong 12 = .ok (.if_icmp .ne 7, 3) := dk_160 0 7 (dk_at dksX8_wrong_0 12 rfl rfl)
theorem dX8_wrong_15 : decode cX8_wrong 15 = .ok (.iconst 1, 1) := dk_4 (dk_at dksX8_wrong_0 15 rfl rfl)
theorem dX8_wrong_16 : decode cX8_wrong 16 = .ok (.goto 4, 3) := dk_167 0 4 (dk_at dksX8_wrong_0 16 rfl rfl)
theorem dX8_wrong_19 : decode cX8_wrong 19 = .ok (.iconst 2, 1) := dk_5 (dk_at dksX8_wrong_0 19 rfl rfl)
theorem dX8_wrong_20 : decode cX8_wrong 20 = .ok (.aload_n 0, 1) := dk_42 (dk_at dksX8_wrong_0 20 rfl rfl)
theorem dX8_wrong_21 : decode cX8_wrong 21 = .ok (.getfield 36, 3) := dk_180 0 36 (dk_at dksX8_wrong_0 21 rfl rfl)
theorem dX8_wrong_24 : decode cX8_wrong 24 = .ok (.invokevirtual 68, 3) := dk_182 0 68 (dk_at dksX8_wrong_1 0 rfl rfl)
theorem dX8_wrong_27 : decode cX8_wrong 27 = .ok (.areturn, 1) := dk_176 (dk_at dksX8_wrong_1 3 rfl rfl)
abbrev cX8_number : ByteArray := prog_9_method_7_code
def yX8_number : MethodName := ⟨RX8, "number", "(II)I"⟩
def dkwX8_number_2 : List UInt8 := [180, 0, 51, 62, 42, 182, 0, 19, 29, 172]
abbrev dktX8_number_2 : List UInt8 := dkwX8_number_2 ++ []
def dkwX8_number_1 : List UInt8 := [180, 0, 51, 28, 164, 0, 19, 42, 180, 0, 3, 180, 0, 64, 7, 42, 180, 0, 36, 182, 0, 68, 191, 42]
abbrev dktX8_number_1 : List UInt8 := dkwX8_number_1 ++ dktX8_number_2
def dkwX8_number_0 : List UInt8 := [42, 180, 0, 42, 5, 159, 0, 8, 42, 182, 0, 73, 191, 42, 180, 0, 51, 27, 161, 0, 11, 42]
abbrev dktX8_number_0 : List UInt8 := dkwX8_number_0 ++ dktX8_number_1
theorem dksX8_number_0 : cX8_number.data.toList.drop 0 = dktX8_number_0 := by decide +kernel
theorem dksX8_number_1 : cX8_number.data.toList.drop 22 = dktX8_number_1 := dk_seg dksX8_number_0 22 rfl rfl
theorem dksX8_number_2 : cX8_number.data.toList.drop 46 = dktX8_number_2 := dk_seg dksX8_number_1 24 rfl rfl
theorem dX8_number_0 : decode cX8_number 0 = .ok (.aload_n 0, 1) := dk_42 (dk_at dksX8_number_0 0 rfl rfl)
theorem dX8_number_1 : decode cX8_number 1 = .ok (.getfield 42, 3) := dk_180 0 42 (dk_at dksX8_number_0 1 rfl rfl)
theorem dX8_number_4 : decode cX8_number 4 = .ok (.iconst 2, 1) := dk_5 (dk_at dksX8_number_0 4 rfl rfl)
theorem dX8_number_5 : decode cX8_number 5 = .ok (.if_icmp .eq 8, 3) := dk_159 0 8 (dk_at dksX8_number_0 5 rfl rfl)
theorem dX8_number_8 : decode cX8_number 8 = .ok (.aload_n 0, 1) := dk_42 (dk_at dksX8_number_0 8 rfl rfl)
theorem dX8_number_9 : decode cX8_number 9 = .ok (.invokevirtual 73, 3) := dk_182 0 73 (dk_at dksX8_number_0 9 rfl rfl)
theorem dX8_number_12 : decode cX8_number 12 = .ok (.athrow, 1) := dk_191 (dk_at dksX8_number_0 12 rfl rfl)
theorem dX8_number_13 : decode cX8_number 13 = .ok (.aload_n 0, 1) := dk_42 (dk_at dksX8_number_0 13 rfl rfl)
theorem dX8_number_14 : decode cX8_number 14 = .ok (.getfield 51, 3) := dk_180 0 51 (dk_at dksX8_number_0 14 rfl rfl)
theorem dX8_number_17 : decode cX8_number 17 = .ok (.iload_n 1, 1) := dk_27 (dk_at dksX8_number_0 17 rfl rfl)
theorem dX8_number_18 : decode cX8_number 18 = .ok (.if_icmp .lt 11, 3) := dk_161 0 11 (dk_at dksX8_number_0 18 rfl rfl)
theorem dX8_number_21 : decode cX8_number 21 = .ok (.aload_n 0, 1) := dk_42 (dk_at dksX8_number_0 21 rfl rfl)
theorem dX8_number_22 : decode cX8_number 22 = .ok (.getfield 51, 3) := dk_180 0 51 (dk_at dksX8_number_1 0 rfl rfl)
theorem dX8_number_25 : decode cX8_number 25 = .ok (.iload_n 2, 1) := dk_28 (dk_at dksX8_number_1 3 rfl rfl)
theorem dX8_number_26 : decode cX8_number 26 = .ok (.if_icmp .le 19, 3) := dk_164 0 19 (dk_at dksX8_number_1 4 rfl rfl)
theorem dX8_number_29 : decode cX8_number 29 = .ok (.aload_n 0, 1) := dk_42 (dk_at dksX8_number_1 7 rfl rfl)
theorem dX8_number_30 : decode cX8_number 30 = .ok (.getfield 3, 3) := dk_180 0 3 (dk_at dksX8_number_1 8 rfl rfl)
theorem dX8_number_33 : decode cX8_number 33 = .ok (.getfield 64, 3) := dk_180 0 64 (dk_at dksX8_number_1 11 rfl rfl)
theorem dX8_number_36 : decode cX8_number 36 = .ok (.iconst 4, 1) := dk_7 (dk_at dksX8_number_1 14 rfl rfl)
theorem dX8_number_37 : decode cX8_number 37 = .ok (.aload_n 0, 1) := dk_42 (dk_at dksX8_number_1 15 rfl rfl)
theorem dX8_number_38 : decode cX8_number 38 = .ok (.getfield 36, 3) := dk_180 0 36 (dk_at dksX8_number_1 16 rfl rfl)
theorem dX8_number_41 : decode cX8_number 41 = .ok (.invokevirtual 68, 3) := dk_182 0 68 (dk_at dksX8_number_1 19 rfl rfl)
theorem dX8_number_44 : decode cX8_number 44 = .ok (.athrow, 1) := dk_191 (dk_at dksX8_number_1 22 rfl rfl)
theorem dX8_number_45 : decode cX8_number 45 = .ok (.aload_n 0, 1) := dk_42 (dk_at dksX8_number_1 23 rfl rfl)
theorem dX8_number_46 : decode cX8_number 46 = .ok (.getfield 51, 3) := dk_180 0 51 (dk_at dksX8_number_2 0 rfl rfl)
theorem dX8_number_49 : decode cX8_number 49 = .ok (.istore_n 3, 1) := dk_62 (dk_at dksX8_number_2 3 rfl rfl)
theorem dX8_number_50 : decode cX8_number 50 = .ok (.aload_n 0, 1) := dk_42 (dk_at dksX8_number_2 4 rfl rfl)
theorem dX8_number_51 : decode cX8_number 51 = .ok (.invokevirtual 19, 3) := dk_182 0 19 (dk_at dksX8_number_2 5 rfl rfl)
theorem dX8_number_54 : decode cX8_number 54 = .ok (.iload_n 3, 1) := dk_29 (dk_at dksX8_number_2 8 rfl rfl)
theorem dX8_number_55 : decode cX8_number 55 = .ok (.ireturn, 1) := dk_172 (dk_at dksX8_number_2 9 rfl rfl)
abbrev cX8_cond : ByteArray := prog_9_method_13_code
def yX8_cond : MethodName := ⟨RX8, "cond", "([B[I)LRaisedPress$Rule;"⟩
def dkwX8_cond_4 : List UInt8 := [182, 0, 172, 158, 0, 7, 42, 182, 0, 19, 45, 176]
abbrev dktX8_cond_4 : List UInt8 := dkwX8_cond_4 ++ []
def dkwX8_cond_3 : List UInt8 := [187, 0, 166, 89, 43, 44, 183, 0, 168, 167, 0, 12, 187, 0, 169, 89, 43, 44, 183, 0, 171, 78, 45]
abbrev dktX8_cond_3 : List UInt8 := dkwX8_cond_3 ++ dktX8_cond_4
def dkwX8_cond_2 : List UInt8 := [153, 0, 15, 187, 0, 161, 89, 43, 44, 183, 0, 163, 167, 0, 33, 42, 18, 164, 182, 0, 79, 153, 0, 15]
abbrev dktX8_cond_2 : List UInt8 := dkwX8_cond_2 ++ dktX8_cond_3
def dkwX8_cond_1 : List UInt8 := [182, 0, 79, 153, 0, 15, 187, 0, 156, 89, 43, 44, 183, 0, 158, 167, 0, 54, 42, 18, 159, 182, 0, 79]
abbrev dktX8_cond_1 : List UInt8 := dkwX8_cond_1 ++ dktX8_cond_2
def dkwX8_cond_0 : List UInt8 := [42, 18, 147, 182, 0, 79, 153, 0, 15, 187, 0, 149, 89, 43, 44, 183, 0, 151, 167, 0, 75, 42, 18, 154]
abbrev dktX8_cond_0 : List UInt8 := dkwX8_cond_0 ++ dktX8_cond_1
theorem dksX8_cond_0 : cX8_cond.data.toList.drop 0 = dktX8_cond_0 := by decide +kernel
theorem dksX8_cond_1 : cX8_cond.data.toList.drop 24 = dktX8_cond_1 := dk_seg dksX8_cond_0 24 rfl rfl
theorem dksX8_cond_2 : cX8_cond.data.toList.drop 48 = dktX8_cond_2 := dk_seg dksX8_cond_1 24 rfl rfl
theorem dksX8_cond_3 : cX8_cond.data.toList.drop 72 = dktX8_cond_3 := dk_seg dksX8_cond_2 24 rfl rfl
theorem dksX8_cond_4 : cX8_cond.data.toList.drop 95 = dktX8_cond_4 := dk_seg dksX8_cond_3 23 rfl rfl
theorem dX8_cond_0 : decode cX8_cond 0 = .ok (.aload_n 0, 1) := dk_42 (dk_at dksX8_cond_0 0 rfl rfl)
theorem dX8_cond_1 : decode cX8_cond 1 = .ok (.ldc 147, 2) := dk_18 147 (dk_at dksX8_cond_0 1 rfl rfl)
theorem dX8_cond_3 : decode cX8_cond 3 = .ok (.invokevirtual 79, 3) := dk_182 0 79 (dk_at dksX8_cond_0 3 rfl rfl)
theorem dX8_cond_6 : decode cX8_cond 6 = .ok (.ifCond .eq 15, 3) := dk_153 0 15 (dk_at dksX8_cond_0 6 rfl rfl)
theorem dX8_cond_9 : decode cX8_cond 9 = .ok (.new 149, 3) := dk_187 0 149 (dk_at dksX8_cond_0 9 rfl rfl)
theorem dX8_cond_12 : decode cX8_cond 12 = .ok (.dup, 1) := dk_89 (dk_at dksX8_cond_0 12 rfl rfl)
theorem dX8_cond_13 : decode cX8_cond 13 = .ok (.aload_n 1, 1) := dk_43 (dk_at dksX8_cond_0 13 rfl rfl)
theorem dX8_cond_14 : decode cX8_cond 14 = .ok (.aload_n 2, 1) := dk_44 (dk_at dksX8_cond_0 14 rfl rfl)
theorem dX8_cond_15 : decode cX8_cond 15 = .ok (.invokespecial 151, 3) := dk_183 0 151 (dk_at dksX8_cond_0 15 rfl rfl)
theorem dX8_cond_18 : decode cX8_cond 18 = .ok (.goto 75, 3) := dk_167 0 75 (dk_at dksX8_cond_0 18 rfl rfl)
theorem dX8_cond_21 : decode cX8_cond 21 = .ok (.aload_n 0, 1) := dk_42 (dk_at dksX8_cond_0 21 rfl rfl)
theorem dX8_cond_22 : decode cX8_cond 22 = .ok (.ldc 154, 2) := dk_18 154 (dk_at dksX8_cond_0 22 rfl rfl)
theorem dX8_cond_24 : decode cX8_cond 24 = .ok (.invokevirtual 79, 3) := dk_182 0 79 (dk_at dksX8_cond_1 0 rfl rfl)
theorem dX8_cond_27 : decode cX8_cond 27 = .ok (.ifCond .eq 15, 3) := dk_153 0 15 (dk_at dksX8_cond_1 3 rfl rfl)
theorem dX8_cond_30 : decode cX8_cond 30 = .ok (.new 156, 3) := dk_187 0 156 (dk_at dksX8_cond_1 6 rfl rfl)
theorem dX8_cond_33 : decode cX8_cond 33 = .ok (.dup, 1) := dk_89 (dk_at dksX8_cond_1 9 rfl rfl)
theorem dX8_cond_34 : decode cX8_cond 34 = .ok (.aload_n 1, 1) := dk_43 (dk_at dksX8_cond_1 10 rfl rfl)
theorem dX8_cond_35 : decode cX8_cond 35 = .ok (.aload_n 2, 1) := dk_44 (dk_at dksX8_cond_1 11 rfl rfl)
theorem dX8_cond_36 : decode cX8_cond 36 = .ok (.invokespecial 158, 3) := dk_183 0 158 (dk_at dksX8_cond_1 12 rfl rfl)
theorem dX8_cond_39 : decode cX8_cond 39 = .ok (.goto 54, 3) := dk_167 0 54 (dk_at dksX8_cond_1 15 rfl rfl)
theorem dX8_cond_42 : decode cX8_cond 42 = .ok (.aload_n 0, 1) := dk_42 (dk_at dksX8_cond_1 18 rfl rfl)
theorem dX8_cond_43 : decode cX8_cond 43 = .ok (.ldc 159, 2) := dk_18 159 (dk_at dksX8_cond_1 19 rfl rfl)
theorem dX8_cond_45 : decode cX8_cond 45 = .ok (.invokevirtual 79, 3) := dk_182 0 79 (dk_at dksX8_cond_1 21 rfl rfl)
theorem dX8_cond_48 : decode cX8_cond 48 = .ok (.ifCond .eq 15, 3) := dk_153 0 15 (dk_at dksX8_cond_2 0 rfl rfl)
theorem dX8_cond_51 : decode cX8_cond 51 = .ok (.new 161, 3) := dk_187 0 161 (dk_at dksX8_cond_2 3 rfl rfl)
theorem dX8_cond_54 : decode cX8_cond 54 = .ok (.dup, 1) := dk_89 (dk_at dksX8_cond_2 6 rfl rfl)
theorem dX8_cond_55 : decode cX8_cond 55 = .ok (.aload_n 1, 1) := dk_43 (dk_at dksX8_cond_2 7 rfl rfl)
theorem dX8_cond_56 : decode cX8_cond 56 = .ok (.aload_n 2, 1) := dk_44 (dk_at dksX8_cond_2 8 rfl rfl)
theorem dX8_cond_57 : decode cX8_cond 57 = .ok (.invokespecial 163, 3) := dk_183 0 163 (dk_at dksX8_cond_2 9 rfl rfl)
theorem dX8_cond_60 : decode cX8_cond 60 = .ok (.goto 33, 3) := dk_167 0 33 (dk_at dksX8_cond_2 12 rfl rfl)
theorem dX8_cond_63 : decode cX8_cond 63 = .ok (.aload_n 0, 1) := dk_42 (dk_at dksX8_cond_2 15 rfl rfl)
theorem dX8_cond_64 : decode cX8_cond 64 = .ok (.ldc 164, 2) := dk_18 164 (dk_at dksX8_cond_2 16 rfl rfl)
theorem dX8_cond_66 : decode cX8_cond 66 = .ok (.invokevirtual 79, 3) := dk_182 0 79 (dk_at dksX8_cond_2 18 rfl rfl)
theorem dX8_cond_69 : decode cX8_cond 69 = .ok (.ifCond .eq 15, 3) := dk_153 0 15 (dk_at dksX8_cond_2 21 rfl rfl)
theorem dX8_cond_72 : decode cX8_cond 72 = .ok (.new 166, 3) := dk_187 0 166 (dk_at dksX8_cond_3 0 rfl rfl)
theorem dX8_cond_75 : decode cX8_cond 75 = .ok (.dup, 1) := dk_89 (dk_at dksX8_cond_3 3 rfl rfl)
theorem dX8_cond_76 : decode cX8_cond 76 = .ok (.aload_n 1, 1) := dk_43 (dk_at dksX8_cond_3 4 rfl rfl)
theorem dX8_cond_77 : decode cX8_cond 77 = .ok (.aload_n 2, 1) := dk_44 (dk_at dksX8_cond_3 5 rfl rfl)
theorem dX8_cond_78 : decode cX8_cond 78 = .ok (.invokespecial 168, 3) := dk_183 0 168 (dk_at dksX8_cond_3 6 rfl rfl)
theorem dX8_cond_81 : decode cX8_cond 81 = .ok (.goto 12, 3) := dk_167 0 12 (dk_at dksX8_cond_3 9 rfl rfl)
theorem dX8_cond_84 : decode cX8_cond 84 = .ok (.new 169, 3) := dk_187 0 169 (dk_at dksX8_cond_3 12 rfl rfl)
theorem dX8_cond_87 : decode cX8_cond 87 = .ok (.dup, 1) := dk_89 (dk_at dksX8_cond_3 15 rfl rfl)
theorem dX8_cond_88 : decode cX8_cond 88 = .ok (.aload_n 1, 1) := dk_43 (dk_at dksX8_cond_3 16 rfl rfl)
theorem dX8_cond_89 : decode cX8_cond 89 = .ok (.aload_n 2, 1) := dk_44 (dk_at dksX8_cond_3 17 rfl rfl)
theorem dX8_cond_90 : decode cX8_cond 90 = .ok (.invokespecial 171, 3) := dk_183 0 171 (dk_at dksX8_cond_3 18 rfl rfl)
theorem dX8_cond_93 : decode cX8_cond 93 = .ok (.astore_n 3, 1) := dk_78 (dk_at dksX8_cond_3 21 rfl rfl)
theorem dX8_cond_94 : decode cX8_cond 94 = .ok (.aload_n 3, 1) := dk_45 (dk_at dksX8_cond_3 22 rfl rfl)
theorem dX8_cond_95 : decode cX8_cond 95 = .ok (.invokevirtual 172, 3) := dk_182 0 172 (dk_at dksX8_cond_4 0 rfl rfl)
theorem dX8_cond_98 : decode cX8_cond 98 = .ok (.ifCond .le 7, 3) := dk_158 0 7 (dk_at dksX8_cond_4 3 rfl rfl)
theorem dX8_cond_101 : decode cX8_cond 101 = .ok (.aload_n 0, 1) := dk_42 (dk_at dksX8_cond_4 6 rfl rfl)
theorem dX8_cond_102 : decode cX8_cond 102 = .ok (.invokevirtual 19, 3) := dk_182 0 19 (dk_at dksX8_cond_4 7 rfl rfl)
theorem dX8_cond_105 : decode cX8_cond 105 = .ok (.aload_n 3, 1) := dk_45 (dk_at dksX8_cond_4 10 rfl rfl)
theorem dX8_cond_106 : decode cX8_cond 106 = .ok (.areturn, 1) := dk_176 (dk_at dksX8_cond_4 11 rfl rfl)
abbrev cX8_once : ByteArray := prog_9_method_9_code
def yX8_once : MethodName := ⟨RX8, "once", "(ZII)I"⟩
def dkwX8_once_1 : List UInt8 := [42, 28, 29, 182, 0, 110, 172]
abbrev dktX8_once_1 : List UInt8 := dkwX8_once_1 ++ []
def dkwX8_once_0 : List UInt8 := [27, 153, 0, 19, 42, 180, 0, 3, 180, 0, 64, 8, 42, 180, 0, 36, 182, 0, 68, 191, 42, 182, 0, 19]
abbrev dktX8_once_0 : List UInt8 := dkwX8_once_0 ++ dktX8_once_1
theorem dksX8_once_0 : cX8_once.data.toList.drop 0 = dktX8_once_0 := by decide +kernel
theorem dksX8_once_1 : cX8_once.data.toList.drop 24 = dktX8_once_1 := dk_seg dksX8_once_0 24 rfl rfl
theorem dX8_once_0 : decode cX8_once 0 = .ok (.iload_n 1, 1) := dk_27 (dk_at dksX8_once_0 0 rfl rfl)
theorem dX8_once_1 : decode cX8_once 1 = .ok (.ifCond .eq 19, 3) := dk_153 0 19 (dk_at dksX8_once_0 1 rfl rfl)
theorem dX8_once_4 : decode cX8_once 4 = .ok (.aload_n 0, 1) := dk_42 (dk_at dksX8_once_0 4 rfl rfl)
theorem dX8_once_5 : decode cX8_once 5 = .ok (.getfield 3, 3) := dk_180 0 3 (dk_at dksX8_once_0 5 rfl rfl)
theorem dX8_once_8 : decode cX8_once 8 = .ok (.getfield 64, 3) := dk_180 0 64 (dk_at dksX8_once_0 8 rfl rfl)
theorem dX8_once_11 : decode cX8_once 11 = .ok (.iconst 5, 1) := dk_8 (dk_at dksX8_once_0 11 rfl rfl)
theorem dX8_once_12 : decode cX8_once 12 = .ok (.aload_n 0, 1) := dk_42 (dk_at dksX8_once_0 12 rfl rfl)
theorem dX8_once_13 : decode cX8_once 13 = .ok (.getfield 36, 3) := dk_180 0 36 (dk_at dksX8_once_0 13 rfl rfl)
theorem dX8_once_16 : decode cX8_once 16 = .ok (.invokevirtual 68, 3) := dk_182 0 68 (dk_at dksX8_once_0 16 rfl rfl)
theorem dX8_once_19 : decode cX8_once 19 = .ok (.athrow, 1) := dk_191 (dk_at dksX8_once_0 19 rfl rfl)
theorem dX8_once_20 : decode cX8_once 20 = .ok (.aload_n 0, 1) := dk_42 (dk_at dksX8_once_0 20 rfl rfl)
theorem dX8_once_21 : decode cX8_once 21 = .ok (.invokevirtual 19, 3) := dk_182 0 19 (dk_at dksX8_once_0 21 rfl rfl)
theorem dX8_once_24 : decode cX8_once 24 = .ok (.aload_n 0, 1) := dk_42 (dk_at dksX8_once_1 0 rfl rfl)
theorem dX8_once_25 : decode cX8_once 25 = .ok (.iload_n 2, 1) := dk_28 (dk_at dksX8_once_1 1 rfl rfl)
theorem dX8_once_26 : decode cX8_once 26 = .ok (.iload_n 3, 1) := dk_29 (dk_at dksX8_once_1 2 rfl rfl)
theorem dX8_once_27 : decode cX8_once 27 = .ok (.invokevirtual 110, 3) := dk_182 0 110 (dk_at dksX8_once_1 3 rfl rfl)
theorem dX8_once_30 : decode cX8_once 30 = .ok (.ireturn, 1) := dk_172 (dk_at dksX8_once_1 6 rfl rfl)
abbrev cX8_line : ByteArray := prog_9_method_10_code
def yX8_line : MethodName := ⟨RX8, "line", "(LRaisedPress$Table;)V"⟩
def dkwX8_line_0 : List UInt8 := [43, 42, 42, 180, 0, 113, 7, 16, 40, 182, 0, 92, 181, 0, 117, 42, 4, 181, 0, 113, 177]
abbrev dktX8_line_0 : List UInt8 := dkwX8_line_0 ++ []
theorem dksX8_line_0 : cX8_line.data.toList.drop 0 = dktX8_line_0 := by decide +kernel
theorem dX8_line_0 : decode cX8_line 0 = .ok (.aload_n 1, 1) := dk_43 (dk_at dksX8_line_0 0 rfl rfl)
theorem dX8_line_1 : decode cX8_line 1 = .ok (.aload_n 0, 1) := dk_42 (dk_at dksX8_line_0 1 rfl rfl)
theorem dX8_line_2 : decode cX8_line 2 = .ok (.aload_n 0, 1) := dk_42 (dk_at dksX8_line_0 2 rfl rfl)
theorem dX8_line_3 : decode cX8_line 3 = .ok (.getfield 113, 3) := dk_180 0 113 (dk_at dksX8_line_0 3 rfl rfl)
theorem dX8_line_6 : decode cX8_line 6 = .ok (.iconst 4, 1) := dk_7 (dk_at dksX8_line_0 6 rfl rfl)
theorem dX8_line_7 : decode cX8_line 7 = .ok (.bipush 40, 2) := dk_16 40 (dk_at dksX8_line_0 7 rfl rfl)
theorem dX8_line_9 : decode cX8_line 9 = .ok (.invokevirtual 92, 3) := dk_182 0 92 (dk_at dksX8_line_0 9 rfl rfl)
theorem dX8_line_12 : decode cX8_line 12 = .ok (.putfield 117, 3) := dk_181 0 117 (dk_at dksX8_line_0 12 rfl rfl)
theorem dX8_line_15 : decode cX8_line 15 = .ok (.aload_n 0, 1) := dk_42 (dk_at dksX8_line_0 15 rfl rfl)
theorem dX8_line_16 : decode cX8_line 16 = .ok (.iconst 1, 1) := dk_4 (dk_at dksX8_line_0 16 rfl rfl)
theorem dX8_line_17 : decode cX8_line 17 = .ok (.putfield 113, 3) := dk_181 0 113 (dk_at dksX8_line_0 17 rfl rfl)
theorem dX8_line_20 : decode cX8_line 20 = .ok (.return_, 1) := dk_177 (dk_at dksX8_line_0 20 rfl rfl)
abbrev cX8_page : ByteArray := prog_9_method_11_code
def yX8_page : MethodName := ⟨RX8, "page", "(LRaisedPress$Table;)V"⟩
def dkwX8_page_0 : List UInt8 := [43, 42, 42, 180, 0, 119, 5, 16, 30, 182, 0, 92, 181, 0, 122, 42, 4, 181, 0, 119, 177]
abbrev dktX8_page_0 : List UInt8 := dkwX8_page_0 ++ []
theorem dksX8_page_0 : cX8_page.data.toList.drop 0 = dktX8_page_0 := by decide +kernel
theorem dX8_page_0 : decode cX8_page 0 = .ok (.aload_n 1, 1) := dk_43 (dk_at dksX8_page_0 0 rfl rfl)
theorem dX8_page_1 : decode cX8_page 1 = .ok (.aload_n 0, 1) := dk_42 (dk_at dksX8_page_0 1 rfl rfl)
theorem dX8_page_2 : decode cX8_page 2 = .ok (.aload_n 0, 1) := dk_42 (dk_at dksX8_page_0 2 rfl rfl)
theorem dX8_page_3 : decode cX8_page 3 = .ok (.getfield 119, 3) := dk_180 0 119 (dk_at dksX8_page_0 3 rfl rfl)
theorem dX8_page_6 : decode cX8_page 6 = .ok (.iconst 2, 1) := dk_5 (dk_at dksX8_page_0 6 rfl rfl)
theorem dX8_page_7 : decode cX8_page 7 = .ok (.bipush 30, 2) := dk_16 30 (dk_at dksX8_page_0 7 rfl rfl)
theorem dX8_page_9 : decode cX8_page 9 = .ok (.invokevirtual 92, 3) := dk_182 0 92 (dk_at dksX8_page_0 9 rfl rfl)
theorem dX8_page_12 : decode cX8_page 12 = .ok (.putfield 122, 3) := dk_181 0 122 (dk_at dksX8_page_0 12 rfl rfl)
theorem dX8_page_15 : decode cX8_page 15 = .ok (.aload_n 0, 1) := dk_42 (dk_at dksX8_page_0 15 rfl rfl)
theorem dX8_page_16 : decode cX8_page 16 = .ok (.iconst 1, 1) := dk_4 (dk_at dksX8_page_0 16 rfl rfl)
theorem dX8_page_17 : decode cX8_page 17 = .ok (.putfield 119, 3) := dk_181 0 119 (dk_at dksX8_page_0 17 rfl rfl)
theorem dX8_page_20 : decode cX8_page 20 = .ok (.return_, 1) := dk_177 (dk_at dksX8_page_0 20 rfl rfl)
theorem q136 : (Jvm.Cond.initialized "RaisedPress$Reader") ∈ lw_all := lw_g (lw_at lw_m1 17 rfl) rfl
theorem q275 : (Jvm.Cond.fieldLinkNest "RaisedPress$Reader" (137 : Nat) "RaisedPress$Table" "rules" "[LRaisedPress$Rule;" "RaisedPress") ∈ lw_tbl := lw_at lw_m1 156 rfl
theorem q278 : (Jvm.Cond.fieldLinkNest "RaisedPress$Reader" (124 : Nat) "RaisedPress$Table" "size" "I" "RaisedPress") ∈ lw_tbl := lw_at lw_m1 159 rfl
theorem q281 : (Jvm.Cond.fieldLinkNest "RaisedPress$Reader" (88 : Nat) "RaisedPress$Table" "capital" "I" "RaisedPress") ∈ lw_tbl := lw_at lw_m1 162 rfl
theorem q285 : (Jvm.Cond.fieldLinkNest "RaisedPress$Reader" (97 : Nat) "RaisedPress$Table" "number" "I" "RaisedPress") ∈ lw_tbl := lw_at lw_m1 166 rfl
theorem q289 : (Jvm.Cond.fieldLinkNest "RaisedPress$Reader" (100 : Nat) "RaisedPress$Table" "hyphen" "I" "RaisedPress") ∈ lw_tbl := lw_at lw_m1 170 rfl
theorem q293 : (Jvm.Cond.fieldLinkNest "RaisedPress$Reader" (117 : Nat) "RaisedPress$Table" "line" "I" "RaisedPress") ∈ lw_tbl := lw_at lw_m1 174 rfl
theorem q297 : (Jvm.Cond.fieldLinkNest "RaisedPress$Reader" (122 : Nat) "RaisedPress$Table" "page" "I" "RaisedPress") ∈ lw_tbl := lw_at lw_m1 178 rfl
theorem q409 : (Jvm.Cond.fieldLinkNest "RaisedPress$Reader" (64 : Nat) "RaisedPress" "bad" "LRaisedPress$Bad;" "RaisedPress") ∈ lw_tbl := lw_at lw_m2 50 rfl
theorem q412 : (Jvm.Cond.fieldLinkNest "RaisedPress$Reader" (22 : Nat) "RaisedPress" "tape" "[B" "RaisedPress") ∈ lw_tbl := lw_at lw_m2 53 rfl
theorem q632 : (Jvm.Cond.instantiable "RaisedPress$Reader" (8 : Nat)) ∈ lw_all := lw_g (lw_at lw_m3 33 rfl) rfl
theorem q634 : (Jvm.Cond.instanceMethod ({ cls := "RaisedPress$Reader", name := "<init>", desc := "(LRaisedPress;I)V" } : Jvm.MethodName)) ∈ lw_all := lw_g (lw_at lw_m3 35 rfl) rfl
theorem q635 : (Jvm.Cond.code ({ cls := "RaisedPress$Reader", name := "<init>", desc := "(LRaisedPress;I)V" } : Jvm.MethodName) prog_9_method_1_code (3 : Nat) (Option.none : Option Jvm.ClassFile.FieldType)) ∈ lw_all := lw_g (lw_at lw_m3 36 rfl) rfl
theorem q636 : (Jvm.Cond.methodLink "RaisedPress$Reader" (9 : Nat) ({ cls := "java/lang/Object", name := "<init>", desc := "()V" } : Jvm.MethodName)) ∈ lw_all := lw_g (lw_at lw_m3 37 rfl) rfl
theorem q637 : (Jvm.Cond.methodLink "RaisedPress$Reader" (19 : Nat) ({ cls := "RaisedPress$Reader", name := "next", desc := "()V" } : Jvm.MethodName)) ∈ lw_all := lw_g (lw_at lw_m3 38 rfl) rfl
theorem q638 : (Jvm.Cond.privateMethod ({ cls := "RaisedPress$Reader", name := "next", desc := "()V" } : Jvm.MethodName)) ∈ lw_tbl := lw_at lw_m3 39 rfl
theorem q639 : (Jvm.Cond.instanceMethod ({ cls := "RaisedPress$Reader", name := "next", desc := "()V" } : Jvm.MethodName)) ∈ lw_all := lw_g (lw_at lw_m3 40 rfl) rfl
theorem q640 : (Jvm.Cond.code ({ cls := "RaisedPress$Reader", name := "next", desc := "()V" } : Jvm.MethodName) prog_9_method_4_code (1 : Nat) (Option.none : Option Jvm.ClassFile.FieldType)) ∈ lw_all := lw_g (lw_at lw_m3 41 rfl) rfl
theorem q641 : (Jvm.Cond.methodLinkNest "RaisedPress$Reader" (39 : Nat) ({ cls := "RaisedPress", name := "isBlank", desc := "(I)Z" } : Jvm.MethodName) "RaisedPress") ∈ lw_tbl := lw_at lw_m3 42 rfl
theorem q644 : (Jvm.Cond.methodLink "RaisedPress$Reader" (45 : Nat) ({ cls := "RaisedPress$Reader", name := "isWordByte", desc := "(I)Z" } : Jvm.MethodName)) ∈ lw_all := lw_g (lw_at lw_m3 45 rfl) rfl
theorem q645 : (Jvm.Cond.privateMethod ({ cls := "RaisedPress$Reader", name := "isWordByte", desc := "(I)Z" } : Jvm.MethodName)) ∈ lw_tbl := lw_at lw_m3 46 rfl
theorem q646 : (Jvm.Cond.instanceMethod ({ cls := "RaisedPress$Reader", name := "isWordByte", desc := "(I)Z" } : Jvm.MethodName)) ∈ lw_all := lw_g (lw_at lw_m3 47 rfl) rfl
theorem q647 : (Jvm.Cond.code ({ cls := "RaisedPress$Reader", name := "isWordByte", desc := "(I)Z" } : Jvm.MethodName) prog_9_method_2_code (2 : Nat) (Option.some Jvm.ClassFile.FieldType.boolean)) ∈ lw_all := lw_g (lw_at lw_m3 48 rfl) rfl
theorem q648 : (Jvm.Cond.methodLinkNest "RaisedPress$Reader" (26 : Nat) ({ cls := "RaisedPress", name := "isSmall", desc := "(I)Z" } : Jvm.MethodName) "RaisedPress") ∈ lw_tbl := lw_at lw_m3 49 rfl
theorem q651 : (Jvm.Cond.methodLink "RaisedPress$Reader" (48 : Nat) ({ cls := "RaisedPress$Reader", name := "isDigit", desc := "(I)Z" } : Jvm.MethodName)) ∈ lw_all := lw_g (lw_at lw_m3 52 rfl) rfl
theorem q652 : (Jvm.Cond.privateMethod ({ cls := "RaisedPress$Reader", name := "isDigit", desc := "(I)Z" } : Jvm.MethodName)) ∈ lw_tbl := lw_at lw_m3 53 rfl
theorem q653 : (Jvm.Cond.instanceMethod ({ cls := "RaisedPress$Reader", name := "isDigit", desc := "(I)Z" } : Jvm.MethodName)) ∈ lw_all := lw_g (lw_at lw_m3 54 rfl) rfl
theorem q654 : (Jvm.Cond.code ({ cls := "RaisedPress$Reader", name := "isDigit", desc := "(I)Z" } : Jvm.MethodName) prog_9_method_3_code (2 : Nat) (Option.some Jvm.ClassFile.FieldType.boolean)) ∈ lw_all := lw_g (lw_at lw_m3 55 rfl) rfl
theorem q655 : (Jvm.Cond.methodLinkNest "RaisedPress$Reader" (30 : Nat) ({ cls := "RaisedPress", name := "isFigure", desc := "(I)Z" } : Jvm.MethodName) "RaisedPress") ∈ lw_tbl := lw_at lw_m3 56 rfl
theorem q658 : (Jvm.Cond.fieldLink "RaisedPress$Reader" (15 : Nat) "RaisedPress$Reader" "size" "I") ∈ lw_all := lw_g (lw_at lw_m3 59 rfl) rfl
theorem q659 : (Jvm.Cond.fieldLink "RaisedPress$Reader" (36 : Nat) "RaisedPress$Reader" "at" "I") ∈ lw_all := lw_g (lw_at lw_m3 60 rfl) rfl
theorem q660 : (Jvm.Cond.fieldLink "RaisedPress$Reader" (33 : Nat) "RaisedPress$Reader" "behind" "I") ∈ lw_all := lw_g (lw_at lw_m3 61 rfl) rfl
theorem q661 : (Jvm.Cond.fieldLink "RaisedPress$Reader" (42 : Nat) "RaisedPress$Reader" "sort" "I") ∈ lw_all := lw_g (lw_at lw_m3 62 rfl) rfl
theorem q662 : (Jvm.Cond.fieldLink "RaisedPress$Reader" (51 : Nat) "RaisedPress$Reader" "number" "I") ∈ lw_all := lw_g (lw_at lw_m3 63 rfl) rfl
theorem q663 : (Jvm.Cond.fieldLink "RaisedPress$Reader" (113 : Nat) "RaisedPress$Reader" "hasLine" "Z") ∈ lw_all := lw_g (lw_at lw_m3 64 rfl) rfl
theorem q664 : (Jvm.Cond.fieldLink "RaisedPress$Reader" (119 : Nat) "RaisedPress$Reader" "hasPage" "Z") ∈ lw_all := lw_g (lw_at lw_m3 65 rfl) rfl
theorem q665 : (Jvm.Cond.fieldLink "RaisedPress$Reader" (3 : Nat) "RaisedPress$Reader" "this$0" "LRaisedPress;") ∈ lw_all := lw_g (lw_at lw_m3 66 rfl) rfl
theorem q666 : (Jvm.Cond.laysFinal "RaisedPress$Reader" "RaisedPress$Reader" "size" "I") ∈ lw_all := lw_g (lw_at lw_m3 67 rfl) rfl
theorem q667 : (Jvm.Cond.soleField "RaisedPress$Reader" "size") ∈ lw_all := lw_g (lw_at lw_m3 68 rfl) rfl
theorem q668 : (Jvm.Cond.lays "RaisedPress$Reader" "RaisedPress$Reader" "at" "I") ∈ lw_all := lw_g (lw_at lw_m3 69 rfl) rfl
theorem q669 : (Jvm.Cond.soleField "RaisedPress$Reader" "at") ∈ lw_all := lw_g (lw_at lw_m3 70 rfl) rfl
theorem q670 : (Jvm.Cond.lays "RaisedPress$Reader" "RaisedPress$Reader" "behind" "I") ∈ lw_all := lw_g (lw_at lw_m3 71 rfl) rfl
theorem q671 : (Jvm.Cond.soleField "RaisedPress$Reader" "behind") ∈ lw_all := lw_g (lw_at lw_m3 72 rfl) rfl
theorem q672 : (Jvm.Cond.lays "RaisedPress$Reader" "RaisedPress$Reader" "sort" "I") ∈ lw_all := lw_g (lw_at lw_m3 73 rfl) rfl
theorem q673 : (Jvm.Cond.soleField "RaisedPress$Reader" "sort") ∈ lw_all := lw_g (lw_at lw_m3 74 rfl) rfl
theorem q674 : (Jvm.Cond.lays "RaisedPress$Reader" "RaisedPress$Reader" "number" "I") ∈ lw_all := lw_g (lw_at lw_m3 75 rfl) rfl
theorem q675 : (Jvm.Cond.soleField "RaisedPress$Reader" "number") ∈ lw_all := lw_g (lw_at lw_m3 76 rfl) rfl
theorem q676 : (Jvm.Cond.lays "RaisedPress$Reader" "RaisedPress$Reader" "hasLine" "Z") ∈ lw_all := lw_g (lw_at lw_m3 77 rfl) rfl
theorem q677 : (Jvm.Cond.soleField "RaisedPress$Reader" "hasLine") ∈ lw_all := lw_g (lw_at lw_m3 78 rfl) rfl
theorem q678 : (Jvm.Cond.lays "RaisedPress$Reader" "RaisedPress$Reader" "hasPage" "Z") ∈ lw_all := lw_g (lw_at lw_m3 79 rfl) rfl
theorem q679 : (Jvm.Cond.soleField "RaisedPress$Reader" "hasPage") ∈ lw_all := lw_g (lw_at lw_m3 80 rfl) rfl
theorem q680 : (Jvm.Cond.laysFinal "RaisedPress$Reader" "RaisedPress$Reader" "this$0" "LRaisedPress;") ∈ lw_all := lw_g (lw_at lw_m3 81 rfl) rfl
theorem q681 : (Jvm.Cond.soleField "RaisedPress$Reader" "this$0") ∈ lw_all := lw_g (lw_at lw_m3 82 rfl) rfl
theorem q682 : (Jvm.Cond.superclass "RaisedPress$Reader" "java/lang/Object") ∈ lw_all := lw_g (lw_at lw_m3 83 rfl) rfl
theorem q684 : (Jvm.Cond.instanceMethod ({ cls := "RaisedPress$Reader", name := "table", desc := "(LRaisedPress$Table;)V" } : Jvm.MethodName)) ∈ lw_all := lw_g (lw_at lw_m3 85 rfl) rfl
theorem q685 : (Jvm.Cond.selects "RaisedPress$Reader" ({ cls := "RaisedPress$Reader", name := "table", desc := "(LRaisedPress$Table;)V" } : Jvm.MethodName) ({ cls := "RaisedPress$Reader", name := "table", desc := "(LRaisedPress$Table;)V" } : Jvm.MethodName)) ∈ lw_all := lw_g (lw_at lw_m3 86 rfl) rfl
theorem q686 : (Jvm.Cond.code ({ cls := "RaisedPress$Reader", name := "table", desc := "(LRaisedPress$Table;)V" } : Jvm.MethodName) prog_9_method_8_code (2 : Nat) (Option.none : Option Jvm.ClassFile.FieldType)) ∈ lw_all := lw_g (lw_at lw_m3 87 rfl) rfl
theorem q687 : (Jvm.Cond.stringRef "RaisedPress$Reader" (77 : Nat) "rule") ∈ lw_tbl := lw_at lw_m3 88 rfl
theorem q688 : (Jvm.Cond.methodLink "RaisedPress$Reader" (79 : Nat) ({ cls := "RaisedPress$Reader", name := "isWord", desc := "(Ljava/lang/String;)Z" } : Jvm.MethodName)) ∈ lw_all := lw_g (lw_at lw_m3 89 rfl) rfl
theorem q689 : (Jvm.Cond.privateMethod ({ cls := "RaisedPress$Reader", name := "isWord", desc := "(Ljava/lang/String;)Z" } : Jvm.MethodName)) ∈ lw_tbl := lw_at lw_m3 90 rfl
theorem q690 : (Jvm.Cond.instanceMethod ({ cls := "RaisedPress$Reader", name := "isWord", desc := "(Ljava/lang/String;)Z" } : Jvm.MethodName)) ∈ lw_all := lw_g (lw_at lw_m3 91 rfl) rfl
theorem q691 : (Jvm.Cond.code ({ cls := "RaisedPress$Reader", name := "isWord", desc := "(Ljava/lang/String;)Z" } : Jvm.MethodName) prog_9_method_5_code (3 : Nat) (Option.some Jvm.ClassFile.FieldType.boolean)) ∈ lw_all := lw_g (lw_at lw_m3 92 rfl) rfl
theorem q692 : (Jvm.Cond.methodLink "RaisedPress$Reader" (54 : Nat) ({ cls := "java/lang/String", name := "length", desc := "()I" } : Jvm.MethodName)) ∈ lw_all := lw_g (lw_at lw_m3 93 rfl) rfl
theorem q702 : (Jvm.Cond.methodLink "RaisedPress$Reader" (60 : Nat) ({ cls := "java/lang/String", name := "charAt", desc := "(I)C" } : Jvm.MethodName)) ∈ lw_all := lw_g (lw_at lw_m3 103 rfl) rfl
theorem q740 : (Jvm.Cond.methodLink "RaisedPress$Reader" (83 : Nat) ({ cls := "RaisedPress$Reader", name := "rule", desc := "(LRaisedPress$Table;)V" } : Jvm.MethodName)) ∈ lw_all := lw_g (lw_at lw_m3 141 rfl) rfl
theorem q741 : (Jvm.Cond.privateMethod ({ cls := "RaisedPress$Reader", name := "rule", desc := "(LRaisedPress$Table;)V" } : Jvm.MethodName)) ∈ lw_tbl := lw_at lw_m3 142 rfl
theorem q742 : (Jvm.Cond.instanceMethod ({ cls := "RaisedPress$Reader", name := "rule", desc := "(LRaisedPress$Table;)V" } : Jvm.MethodName)) ∈ lw_all := lw_g (lw_at lw_m3 143 rfl) rfl
theorem q743 : (Jvm.Cond.code ({ cls := "RaisedPress$Reader", name := "rule", desc := "(LRaisedPress$Table;)V" } : Jvm.MethodName) prog_9_method_12_code (8 : Nat) (Option.none : Option Jvm.ClassFile.FieldType)) ∈ lw_all := lw_g (lw_at lw_m3 144 rfl) rfl
theorem q744 : (Jvm.Cond.methodLink "RaisedPress$Reader" (68 : Nat) ({ cls := "RaisedPress$Bad", name := "at", desc := "(II)LRaisedPress$Bad;" } : Jvm.MethodName)) ∈ lw_all := lw_g (lw_at lw_m3 145 rfl) rfl
theorem q748 : (Jvm.Cond.methodLink "RaisedPress$Reader" (73 : Nat) ({ cls := "RaisedPress$Reader", name := "wrong", desc := "()LRaisedPress$Bad;" } : Jvm.MethodName)) ∈ lw_all := lw_g (lw_at lw_m3 149 rfl) rfl
theorem q749 : (Jvm.Cond.privateMethod ({ cls := "RaisedPress$Reader", name := "wrong", desc := "()LRaisedPress$Bad;" } : Jvm.MethodName)) ∈ lw_tbl := lw_at lw_m3 150 rfl
theorem q750 : (Jvm.Cond.instanceMethod ({ cls := "RaisedPress$Reader", name := "wrong", desc := "()LRaisedPress$Bad;" } : Jvm.MethodName)) ∈ lw_all := lw_g (lw_at lw_m3 151 rfl) rfl
theorem q751 : (Jvm.Cond.code ({ cls := "RaisedPress$Reader", name := "wrong", desc := "()LRaisedPress$Bad;" } : Jvm.MethodName) prog_9_method_6_code (1 : Nat) (Option.some (Jvm.ClassFile.FieldType.object "RaisedPress$Bad"))) ∈ lw_all := lw_g (lw_at lw_m3 152 rfl) rfl
theorem q752 : (Jvm.Cond.methodLink "RaisedPress$Reader" (125 : Nat) ({ cls := "java/lang/System", name := "arraycopy", desc := "(Ljava/lang/Object;ILjava/lang/Object;II)V" } : Jvm.MethodName)) ∈ lw_all := lw_g (lw_at lw_m3 153 rfl) rfl
theorem q753 : (Jvm.Cond.stringRef "RaisedPress$Reader" (131 : Nat) "cells") ∈ lw_tbl := lw_at lw_m3 154 rfl
theorem q754 : (Jvm.Cond.methodLink "RaisedPress$Reader" (110 : Nat) ({ cls := "RaisedPress$Reader", name := "number", desc := "(II)I" } : Jvm.MethodName)) ∈ lw_all := lw_g (lw_at lw_m3 155 rfl) rfl
theorem q755 : (Jvm.Cond.privateMethod ({ cls := "RaisedPress$Reader", name := "number", desc := "(II)I" } : Jvm.MethodName)) ∈ lw_tbl := lw_at lw_m3 156 rfl
theorem q756 : (Jvm.Cond.instanceMethod ({ cls := "RaisedPress$Reader", name := "number", desc := "(II)I" } : Jvm.MethodName)) ∈ lw_all := lw_g (lw_at lw_m3 157 rfl) rfl
theorem q757 : (Jvm.Cond.code ({ cls := "RaisedPress$Reader", name := "number", desc := "(II)I" } : Jvm.MethodName) prog_9_method_7_code (4 : Nat) (Option.some Jvm.ClassFile.FieldType.int)) ∈ lw_all := lw_g (lw_at lw_m3 158 rfl) rfl
theorem q758 : (Jvm.Cond.methodLink "RaisedPress$Reader" (133 : Nat) ({ cls := "RaisedPress$Reader", name := "cond", desc := "([B[I)LRaisedPress$Rule;" } : Jvm.MethodName)) ∈ lw_all := lw_g (lw_at lw_m3 159 rfl) rfl
theorem q759 : (Jvm.Cond.privateMethod ({ cls := "RaisedPress$Reader", name := "cond", desc := "([B[I)LRaisedPress$Rule;" } : Jvm.MethodName)) ∈ lw_tbl := lw_at lw_m3 160 rfl
theorem q760 : (Jvm.Cond.instanceMethod ({ cls := "RaisedPress$Reader", name := "cond", desc := "([B[I)LRaisedPress$Rule;" } : Jvm.MethodName)) ∈ lw_all := lw_g (lw_at lw_m3 161 rfl) rfl
theorem q761 : (Jvm.Cond.code ({ cls := "RaisedPress$Reader", name := "cond", desc := "([B[I)LRaisedPress$Rule;" } : Jvm.MethodName) prog_9_method_13_code (4 : Nat) (Option.some (Jvm.ClassFile.FieldType.object "RaisedPress$Rule"))) ∈ lw_all := lw_g (lw_at lw_m3 162 rfl) rfl
theorem q762 : (Jvm.Cond.stringRef "RaisedPress$Reader" (147 : Nat) "begin") ∈ lw_tbl := lw_at lw_m3 163 rfl
theorem q763 : (Jvm.Cond.classLink "RaisedPress$Reader" (149 : Nat) "RaisedPress$Begin") ∈ lw_all := lw_g (lw_at lw_m3 164 rfl) rfl
theorem q765 : (Jvm.Cond.methodLink "RaisedPress$Reader" (151 : Nat) ({ cls := "RaisedPress$Begin", name := "<init>", desc := "([B[I)V" } : Jvm.MethodName)) ∈ lw_all := lw_g (lw_at lw_m3 166 rfl) rfl
theorem q783 : (Jvm.Cond.stringRef "RaisedPress$Reader" (154 : Nat) "middle") ∈ lw_tbl := lw_at lw_m3 184 rfl
theorem q784 : (Jvm.Cond.classLink "RaisedPress$Reader" (156 : Nat) "RaisedPress$Middle") ∈ lw_all := lw_g (lw_at lw_m3 185 rfl) rfl
theorem q786 : (Jvm.Cond.methodLink "RaisedPress$Reader" (158 : Nat) ({ cls := "RaisedPress$Middle", name := "<init>", desc := "([B[I)V" } : Jvm.MethodName)) ∈ lw_all := lw_g (lw_at lw_m3 187 rfl) rfl
theorem q793 : (Jvm.Cond.stringRef "RaisedPress$Reader" (159 : Nat) "end") ∈ lw_tbl := lw_at lw_m3 194 rfl
theorem q794 : (Jvm.Cond.classLink "RaisedPress$Reader" (161 : Nat) "RaisedPress$Ending") ∈ lw_all := lw_g (lw_at lw_m3 195 rfl) rfl
theorem q796 : (Jvm.Cond.methodLink "RaisedPress$Reader" (163 : Nat) ({ cls := "RaisedPress$Ending", name := "<init>", desc := "([B[I)V" } : Jvm.MethodName)) ∈ lw_all := lw_g (lw_at lw_m3 197 rfl) rfl
theorem q803 : (Jvm.Cond.stringRef "RaisedPress$Reader" (164 : Nat) "alone") ∈ lw_tbl := lw_at lw_m3 204 rfl
theorem q804 : (Jvm.Cond.classLink "RaisedPress$Reader" (166 : Nat) "RaisedPress$Alone") ∈ lw_all := lw_g (lw_at lw_m3 205 rfl) rfl
theorem q806 : (Jvm.Cond.methodLink "RaisedPress$Reader" (168 : Nat) ({ cls := "RaisedPress$Alone", name := "<init>", desc := "([B[I)V" } : Jvm.MethodName)) ∈ lw_all := lw_g (lw_at lw_m3 207 rfl) rfl
theorem q813 : (Jvm.Cond.classLink "RaisedPress$Reader" (169 : Nat) "RaisedPress$Anywhere") ∈ lw_all := lw_g (lw_at lw_m3 214 rfl) rfl
theorem q815 : (Jvm.Cond.methodLink "RaisedPress$Reader" (171 : Nat) ({ cls := "RaisedPress$Anywhere", name := "<init>", desc := "([B[I)V" } : Jvm.MethodName)) ∈ lw_all := lw_g (lw_at lw_m3 216 rfl) rfl
theorem q822 : (Jvm.Cond.methodLink "RaisedPress$Reader" (172 : Nat) ({ cls := "RaisedPress$Rule", name := "told", desc := "()I" } : Jvm.MethodName)) ∈ lw_all := lw_g (lw_at lw_m3 223 rfl) rfl
theorem q840 : (Jvm.Cond.methodLink "RaisedPress$Reader" (141 : Nat) ({ cls := "RaisedPress$Rule", name := "isLike", desc := "(LRaisedPress$Rule;)Z" } : Jvm.MethodName)) ∈ lw_all := lw_g (lw_at lw_m4 1 rfl) rfl
theorem q850 : (Jvm.Cond.stringRef "RaisedPress$Reader" (86 : Nat) "capital") ∈ lw_tbl := lw_at lw_m4 11 rfl
theorem q851 : (Jvm.Cond.methodLink "RaisedPress$Reader" (92 : Nat) ({ cls := "RaisedPress$Reader", name := "once", desc := "(ZII)I" } : Jvm.MethodName)) ∈ lw_all := lw_g (lw_at lw_m4 12 rfl) rfl
theorem q852 : (Jvm.Cond.privateMethod ({ cls := "RaisedPress$Reader", name := "once", desc := "(ZII)I" } : Jvm.MethodName)) ∈ lw_tbl := lw_at lw_m4 13 rfl
theorem q853 : (Jvm.Cond.instanceMethod ({ cls := "RaisedPress$Reader", name := "once", desc := "(ZII)I" } : Jvm.MethodName)) ∈ lw_all := lw_g (lw_at lw_m4 14 rfl) rfl
theorem q854 : (Jvm.Cond.code ({ cls := "RaisedPress$Reader", name := "once", desc := "(ZII)I" } : Jvm.MethodName) prog_9_method_9_code (4 : Nat) (Option.some Jvm.ClassFile.FieldType.int)) ∈ lw_all := lw_g (lw_at lw_m4 15 rfl) rfl
theorem q855 : (Jvm.Cond.stringRef "RaisedPress$Reader" (96 : Nat) "number") ∈ lw_tbl := lw_at lw_m4 16 rfl
theorem q856 : (Jvm.Cond.stringRef "RaisedPress$Reader" (98 : Nat) "hyphen") ∈ lw_tbl := lw_at lw_m4 17 rfl
theorem q857 : (Jvm.Cond.stringRef "RaisedPress$Reader" (102 : Nat) "line") ∈ lw_tbl := lw_at lw_m4 18 rfl
theorem q858 : (Jvm.Cond.methodLink "RaisedPress$Reader" (104 : Nat) ({ cls := "RaisedPress$Reader", name := "line", desc := "(LRaisedPress$Table;)V" } : Jvm.MethodName)) ∈ lw_all := lw_g (lw_at lw_m4 19 rfl) rfl
theorem q859 : (Jvm.Cond.privateMethod ({ cls := "RaisedPress$Reader", name := "line", desc := "(LRaisedPress$Table;)V" } : Jvm.MethodName)) ∈ lw_tbl := lw_at lw_m4 20 rfl
theorem q860 : (Jvm.Cond.instanceMethod ({ cls := "RaisedPress$Reader", name := "line", desc := "(LRaisedPress$Table;)V" } : Jvm.MethodName)) ∈ lw_all := lw_g (lw_at lw_m4 21 rfl) rfl
theorem q861 : (Jvm.Cond.code ({ cls := "RaisedPress$Reader", name := "line", desc := "(LRaisedPress$Table;)V" } : Jvm.MethodName) prog_9_method_10_code (2 : Nat) (Option.none : Option Jvm.ClassFile.FieldType)) ∈ lw_all := lw_g (lw_at lw_m4 22 rfl) rfl
theorem q862 : (Jvm.Cond.stringRef "RaisedPress$Reader" (106 : Nat) "page") ∈ lw_tbl := lw_at lw_m4 23 rfl
theorem q863 : (Jvm.Cond.methodLink "RaisedPress$Reader" (108 : Nat) ({ cls := "RaisedPress$Reader", name := "page", desc := "(LRaisedPress$Table;)V" } : Jvm.MethodName)) ∈ lw_all := lw_g (lw_at lw_m4 24 rfl) rfl
theorem q864 : (Jvm.Cond.privateMethod ({ cls := "RaisedPress$Reader", name := "page", desc := "(LRaisedPress$Table;)V" } : Jvm.MethodName)) ∈ lw_tbl := lw_at lw_m4 25 rfl
theorem q865 : (Jvm.Cond.instanceMethod ({ cls := "RaisedPress$Reader", name := "page", desc := "(LRaisedPress$Table;)V" } : Jvm.MethodName)) ∈ lw_all := lw_g (lw_at lw_m4 26 rfl) rfl
theorem q866 : (Jvm.Cond.code ({ cls := "RaisedPress$Reader", name := "page", desc := "(LRaisedPress$Table;)V" } : Jvm.MethodName) prog_9_method_11_code (2 : Nat) (Option.none : Option Jvm.ClassFile.FieldType)) ∈ lw_all := lw_g (lw_at lw_m4 27 rfl) rfl
theorem in_X8 : ∀ w ∈ wsX80, w ∈ lw_all := lw_in wsX80 [666, 668, 670, 672, 674, 676, 678, 680] (by decide +kernel) (by decide +kernel)
/-! RaisedPress$Rule -/
set_option maxRecDepth 100000
def RX9 : String := "RaisedPress$Rule"
abbrev cX9_init : ByteArray := prog_11_method_1_code
def yX9_init : MethodName := ⟨RX9, "<init>", "([B[I)V"⟩
def dkwX9_init_0 : List UInt8 := [42, 183, 0, 1, 42, 43, 181, 0, 7, 42, 44, 181, 0, 13, 177]
abbrev dktX9_init_0 : List UInt8 := dkwX9_init_0 ++ []
theorem dksX9_init_0 : cX9_init.data.toList.drop 0 = dktX9_init_0 := by decide +kernel
theorem dX9_init_0 : decode cX9_init 0 = .ok (.aload_n 0, 1) := dk_42 (dk_at dksX9_init_0 0 rfl rfl)
theorem dX9_init_1 : decode cX9_init 1 = .ok (.invokespecial 1, 3) := dk_183 0 1 (dk_at dksX9_init_0 1 rfl rfl)
theorem dX9_init_4 : decode cX9_init 4 = .ok (.aload_n 0, 1) := dk_42 (dk_at dksX9_init_0 4 rfl rfl)
theorem dX9_init_5 : decode cX9_init 5 = .ok (.aload_n 1, 1) := dk_43 (dk_at dksX9_init_0 5 rfl rfl)
theorem dX9_init_6 : decode cX9_init 6 = .ok (.putfield 7, 3) := dk_181 0 7 (dk_at dksX9_init_0 6 rfl rfl)
theorem dX9_init_9 : decode cX9_init 9 = .ok (.aload_n 0, 1) := dk_42 (dk_at dksX9_init_0 9 rfl rfl)
theorem dX9_init_10 : decode cX9_init 10 = .ok (.aload_n 2, 1) := dk_44 (dk_at dksX9_init_0 10 rfl rfl)
theorem dX9_init_11 : decode cX9_init 11 = .ok (.putfield 13, 3) := dk_181 0 13 (dk_at dksX9_init_0 11 rfl rfl)
theorem dX9_init_14 : decode cX9_init 14 = .ok (.return_, 1) := dk_177 (dk_at dksX9_init_0 14 rfl rfl)
abbrev cX9_isLike : ByteArray := prog_11_method_5_code
def yX9_isLike : MethodName := ⟨RX9, "isLike", "(LRaisedPress$Rule;)Z"⟩
def dkwX9_isLike_2 : List UInt8 := [51, 159, 0, 5, 3, 172, 132, 2, 1, 167, 255, 227, 4, 172]
abbrev dktX9_isLike_2 : List UInt8 := dkwX9_isLike_2 ++ []
def dkwX9_isLike_1 : List UInt8 := [3, 172, 3, 61, 28, 42, 180, 0, 7, 190, 162, 0, 26, 42, 180, 0, 7, 28, 51, 43, 180, 0, 7, 28]
abbrev dktX9_isLike_1 : List UInt8 := dkwX9_isLike_1 ++ dktX9_isLike_2
def dkwX9_isLike_0 : List UInt8 := [42, 182, 0, 17, 43, 182, 0, 17, 160, 0, 16, 42, 180, 0, 7, 190, 43, 180, 0, 7, 190, 159, 0, 5]
abbrev dktX9_isLike_0 : List UInt8 := dkwX9_isLike_0 ++ dktX9_isLike_1
theorem dksX9_isLike_0 : cX9_isLike.data.toList.drop 0 = dktX9_isLike_0 := by decide +kernel
theorem dksX9_isLike_1 : cX9_isLike.data.toList.drop 24 = dktX9_isLike_1 := dk_seg dksX9_isLike_0 24 rfl rfl
theorem dksX9_isLike_2 : cX9_isLike.data.toList.drop 48 = dktX9_isLike_2 := dk_seg dksX9_isLike_1 24 rfl rfl
theorem dX9_isLike_0 : decode cX9_isLike 0 = .ok (.aload_n 0, 1) := dk_42 (dk_at dksX9_isLike_0 0 rfl rfl)
theorem dX9_isLike_1 : decode cX9_isLike 1 = .ok (.invokevirtual 17, 3) := dk_182 0 17 (dk_at dksX9_isLike_0 1 rfl rfl)
theorem dX9_isLike_4 : decode cX9_isLike 4 = .ok (.aload_n 1, 1) := dk_43 (dk_at dksX9_isLike_0 4 rfl rfl)
theorem dX9_isLike_5 : decode cX9_isLike 5 = .ok (.invokevirtual 17, 3) := dk_182 0 17 (dk_at dksX9_isLike_0 5 rfl rfl)
theorem dX9_isLike_8 : decode cX9_isLike 8 = .ok (.if_icmp .ne 16, 3) := dk_160 0 16 (dk_at dksX9_isLike_0 8 rfl rfl)
theorem dX9_isLike_11 : decode cX9_isLike 11 = .ok (.aload_n 0, 1) := dk_42 (dk_at dksX9_isLike_0 11 rfl rfl)
theorem dX9_isLike_12 : decode cX9_isLike 12 = .ok (.getfield 7, 3) := dk_180 0 7 (dk_at dksX9_isLike_0 12 rfl rfl)
theorem dX9_isLike_15 : decode cX9_isLike 15 = .ok (.arraylength, 1) := dk_190 (dk_at dksX9_isLike_0 15 rfl rfl)
theorem dX9_isLike_16 : decode cX9_isLike 16 = .ok (.aload_n 1, 1) := dk_43 (dk_at dksX9_isLike_0 16 rfl rfl)
theorem dX9_isLike_17 : decode cX9_isLike 17 = .ok (.getfield 7, 3) := dk_180 0 7 (dk_at dksX9_isLike_0 17 rfl rfl)
theorem dX9_isLike_20 : decode cX9_isLike 20 = .ok (.arraylength, 1) := dk_190 (dk_at dksX9_isLike_0 20 rfl rfl)
theorem dX9_isLike_21 : decode cX9_isLike 21 = .ok (.if_icmp .eq 5, 3) := dk_159 0 5 (dk_at dksX9_isLike_0 21 rfl rfl)
theorem dX9_isLike_24 : decode cX9_isLike 24 = .ok (.iconst 0, 1) := dk_3 (dk_at dksX9_isLike_1 0 rfl rfl)
theorem dX9_isLike_25 : decode cX9_isLike 25 = .ok (.ireturn, 1) := dk_172 (dk_at dksX9_isLike_1 1 rfl rfl)
theorem dX9_isLike_26 : decode cX9_isLike 26 = .ok (.iconst 0, 1) := dk_3 (dk_at dksX9_isLike_1 2 rfl rfl)
theorem dX9_isLike_27 : decode cX9_isLike 27 = .ok (.istore_n 2, 1) := dk_61 (dk_at dksX9_isLike_1 3 rfl rfl)
theorem dX9_isLike_28 : decode cX9_isLike 28 = .ok (.iload_n 2, 1) := dk_28 (dk_at dksX9_isLike_1 4 rfl rfl)
theorem dX9_isLike_29 : decode cX9_isLike 29 = .ok (.aload_n 0, 1) := dk_42 (dk_at dksX9_isLike_1 5 rfl rfl)
theorem dX9_isLike_30 : decode cX9_isLike 30 = .ok (.getfield 7, 3) := dk_180 0 7 (dk_at dksX9_isLike_1 6 rfl rfl)
theorem dX9_isLike_33 : decode cX9_isLike 33 = .ok (.arraylength, 1) := dk_190 (dk_at dksX9_isLike_1 9 rfl rfl)
theorem dX9_isLike_34 : decode cX9_isLike 34 = .ok (.if_icmp .ge 26, 3) := dk_162 0 26 (dk_at dksX9_isLike_1 10 rfl rfl)
theorem dX9_isLike_37 : decode cX9_isLike 37 = .ok (.aload_n 0, 1) := dk_42 (dk_at dksX9_isLike_1 13 rfl rfl)
theorem dX9_isLike_38 : decode cX9_isLike 38 = .ok (.getfield 7, 3) := dk_180 0 7 (dk_at dksX9_isLike_1 14 rfl rfl)
theorem dX9_isLike_41 : decode cX9_isLike 41 = .ok (.iload_n 2, 1) := dk_28 (dk_at dksX9_isLike_1 17 rfl rfl)
theorem dX9_isLike_42 : decode cX9_isLike 42 = .ok (.baload, 1) := dk_51 (dk_at dksX9_isLike_1 18 rfl rfl)
theorem dX9_isLike_43 : decode cX9_isLike 43 = .ok (.aload_n 1, 1) := dk_43 (dk_at dksX9_isLike_1 19 rfl rfl)
theorem dX9_isLike_44 : decode cX9_isLike 44 = .ok (.getfield 7, 3) := dk_180 0 7 (dk_at dksX9_isLike_1 20 rfl rfl)
theorem dX9_isLike_47 : decode cX9_isLike 47 = .ok (.iload_n 2, 1) := dk_28 (dk_at dksX9_isLike_1 23 rfl rfl)
theorem dX9_isLike_48 : decode cX9_isLike 48 = .ok (.baload, 1) := dk_51 (dk_at dksX9_isLike_2 0 rfl rfl)
theorem dX9_isLike_49 : decode cX9_isLike 49 = .ok (.if_icmp .eq 5, 3) := dk_159 0 5 (dk_at dksX9_isLike_2 1 rfl rfl)
theorem dX9_isLike_52 : decode cX9_isLike 52 = .ok (.iconst 0, 1) := dk_3 (dk_at dksX9_isLike_2 4 rfl rfl)
theorem dX9_isLike_53 : decode cX9_isLike 53 = .ok (.ireturn, 1) := dk_172 (dk_at dksX9_isLike_2 5 rfl rfl)
theorem dX9_isLike_54 : decode cX9_isLike 54 = .ok (.iinc 2 1, 3) := dk_132 2 1 (dk_at dksX9_isLike_2 6 rfl rfl)
theorem dX9_isLike_57 : decode cX9_isLike 57 = .ok (.goto (-29), 3) := dk_167 255 227 (dk_at dksX9_isLike_2 9 rfl rfl)
theorem dX9_isLike_60 : decode cX9_isLike 60 = .ok (.iconst 1, 1) := dk_4 (dk_at dksX9_isLike_2 12 rfl rfl)
theorem dX9_isLike_61 : decode cX9_isLike 61 = .ok (.ireturn, 1) := dk_172 (dk_at dksX9_isLike_2 13 rfl rfl)
abbrev cX9_isJust : ByteArray := prog_11_method_4_code
def yX9_isJust : MethodName := ⟨RX9, "isJust", "(I)Z"⟩
def dkwX9_isJust_1 : List UInt8 := [160, 0, 7, 4, 167, 0, 4, 3, 172]
abbrev dktX9_isJust_1 : List UInt8 := dkwX9_isJust_1 ++ []
def dkwX9_isJust_0 : List UInt8 := [42, 182, 0, 17, 154, 0, 26, 42, 180, 0, 7, 190, 4, 160, 0, 17, 42, 180, 0, 7, 3, 51, 27]
abbrev dktX9_isJust_0 : List UInt8 := dkwX9_isJust_0 ++ dktX9_isJust_1
theorem dksX9_isJust_0 : cX9_isJust.data.toList.drop 0 = dktX9_isJust_0 := by decide +kernel
theorem dksX9_isJust_1 : cX9_isJust.data.toList.drop 23 = dktX9_isJust_1 := dk_seg dksX9_isJust_0 23 rfl rfl
theorem dX9_isJust_0 : decode cX9_isJust 0 = .ok (.aload_n 0, 1) := dk_42 (dk_at dksX9_isJust_0 0 rfl rfl)
theorem dX9_isJust_1 : decode cX9_isJust 1 = .ok (.invokevirtual 17, 3) := dk_182 0 17 (dk_at dksX9_isJust_0 1 rfl rfl)
theorem dX9_isJust_4 : decode cX9_isJust 4 = .ok (.ifCond .ne 26, 3) := dk_154 0 26 (dk_at dksX9_isJust_0 4 rfl rfl)
theorem dX9_isJust_7 : decode cX9_isJust 7 = .ok (.aload_n 0, 1) := dk_42 (dk_at dksX9_isJust_0 7 rfl rfl)
theorem dX9_isJust_8 : decode cX9_isJust 8 = .ok (.getfield 7, 3) := dk_180 0 7 (dk_at dksX9_isJust_0 8 rfl rfl)
theorem dX9_isJust_11 : decode cX9_isJust 11 = .ok (.arraylength, 1) := dk_190 (dk_at dksX9_isJust_0 11 rfl rfl)
theorem dX9_isJust_12 : decode cX9_isJust 12 = .ok (.iconst 1, 1) := dk_4 (dk_at dksX9_isJust_0 12 rfl rfl)
theorem dX9_isJust_13 : decode cX9_isJust 13 = .ok (.if_icmp .ne 17, 3) := dk_160 0 17 (dk_at dksX9_isJust_0 13 rfl rfl)
theorem dX9_isJust_16 : decode cX9_isJust 16 = .ok (.aload_n 0, 1) := dk_42 (dk_at dksX9_isJust_0 16 rfl rfl)
theorem dX9_isJust_17 : decode cX9_isJust 17 = .ok (.getfield 7, 3) := dk_180 0 7 (dk_at dksX9_isJust_0 17 rfl rfl)
theorem dX9_isJust_20 : decode cX9_isJust 20 = .ok (.iconst 0, 1) := dk_3 (dk_at dksX9_isJust_0 20 rfl rfl)
theorem dX9_isJust_21 : decode cX9_isJust 21 = .ok (.baload, 1) := dk_51 (dk_at dksX9_isJust_0 21 rfl rfl)
theorem dX9_isJust_22 : decode cX9_isJust 22 = .ok (.iload_n 1, 1) := dk_27 (dk_at dksX9_isJust_0 22 rfl rfl)
theorem dX9_isJust_23 : decode cX9_isJust 23 = .ok (.if_icmp .ne 7, 3) := dk_160 0 7 (dk_at dksX9_isJust_1 0 rfl rfl)
theorem dX9_isJust_26 : decode cX9_isJust 26 = .ok (.iconst 1, 1) := dk_4 (dk_at dksX9_isJust_1 3 rfl rfl)
theorem dX9_isJust_27 : decode cX9_isJust 27 = .ok (.goto 4, 3) := dk_167 0 4 (dk_at dksX9_isJust_1 4 rfl rfl)
theorem dX9_isJust_30 : decode cX9_isJust 30 = .ok (.iconst 0, 1) := dk_3 (dk_at dksX9_isJust_1 7 rfl rfl)
theorem dX9_isJust_31 : decode cX9_isJust 31 = .ok (.ireturn, 1) := dk_172 (dk_at dksX9_isJust_1 8 rfl rfl)
abbrev cX9_isAhead : ByteArray := prog_11_method_6_code
def yX9_isAhead : MethodName := ⟨RX9, "isAhead", "(ILRaisedPress$Rule;I)Z"⟩
def dkwX9_isAhead_2 : List UInt8 := [100, 46, 159, 0, 5, 3, 172, 132, 4, 1, 167, 255, 220, 4, 172]
abbrev dktX9_isAhead_2 : List UInt8 := dkwX9_isAhead_2 ++ []
def dkwX9_isAhead_1 : List UInt8 := [42, 180, 0, 13, 190, 162, 0, 32, 42, 180, 0, 13, 21, 4, 46, 44, 180, 0, 13, 29, 21, 4, 96, 27]
abbrev dktX9_isAhead_1 : List UInt8 := dkwX9_isAhead_1 ++ dktX9_isAhead_2
def dkwX9_isAhead_0 : List UInt8 := [42, 180, 0, 13, 190, 27, 100, 44, 180, 0, 13, 190, 29, 100, 164, 0, 5, 3, 172, 27, 54, 4, 21, 4]
abbrev dktX9_isAhead_0 : List UInt8 := dkwX9_isAhead_0 ++ dktX9_isAhead_1
theorem dksX9_isAhead_0 : cX9_isAhead.data.toList.drop 0 = dktX9_isAhead_0 := by decide +kernel
theorem dksX9_isAhead_1 : cX9_isAhead.data.toList.drop 24 = dktX9_isAhead_1 := dk_seg dksX9_isAhead_0 24 rfl rfl
theorem dksX9_isAhead_2 : cX9_isAhead.data.toList.drop 48 = dktX9_isAhead_2 := dk_seg dksX9_isAhead_1 24 rfl rfl
theorem dX9_isAhead_0 : decode cX9_isAhead 0 = .ok (.aload_n 0, 1) := dk_42 (dk_at dksX9_isAhead_0 0 rfl rfl)
theorem dX9_isAhead_1 : decode cX9_isAhead 1 = .ok (.getfield 13, 3) := dk_180 0 13 (dk_at dksX9_isAhead_0 1 rfl rfl)
theorem dX9_isAhead_4 : decode cX9_isAhead 4 = .ok (.arraylength, 1) := dk_190 (dk_at dksX9_isAhead_0 4 rfl rfl)
theorem dX9_isAhead_5 : decode cX9_isAhead 5 = .ok (.iload_n 1, 1) := dk_27 (dk_at dksX9_isAhead_0 5 rfl rfl)
theorem dX9_isAhead_6 : decode cX9_isAhead 6 = .ok (.isub, 1) := dk_100 (dk_at dksX9_isAhead_0 6 rfl rfl)
theorem dX9_isAhead_7 : decode cX9_isAhead 7 = .ok (.aload_n 2, 1) := dk_44 (dk_at dksX9_isAhead_0 7 rfl rfl)
theorem dX9_isAhead_8 : decode cX9_isAhead 8 = .ok (.getfield 13, 3) := dk_180 0 13 (dk_at dksX9_isAhead_0 8 rfl rfl)
theorem dX9_isAhead_11 : decode cX9_isAhead 11 = .ok (.arraylength, 1) := dk_190 (dk_at dksX9_isAhead_0 11 rfl rfl)
theorem dX9_isAhead_12 : decode cX9_isAhead 12 = .ok (.iload_n 3, 1) := dk_29 (dk_at dksX9_isAhead_0 12 rfl rfl)
theorem dX9_isAhead_13 : decode cX9_isAhead 13 = .ok (.isub, 1) := dk_100 (dk_at dksX9_isAhead_0 13 rfl rfl)
theorem dX9_isAhead_14 : decode cX9_isAhead 14 = .ok (.if_icmp .le 5, 3) := dk_164 0 5 (dk_at dksX9_isAhead_0 14 rfl rfl)
theorem dX9_isAhead_17 : decode cX9_isAhead 17 = .ok (.iconst 0, 1) := dk_3 (dk_at dksX9_isAhead_0 17 rfl rfl)
theorem dX9_isAhead_18 : decode cX9_isAhead 18 = .ok (.ireturn, 1) := dk_172 (dk_at dksX9_isAhead_0 18 rfl rfl)
theorem dX9_isAhead_19 : decode cX9_isAhead 19 = .ok (.iload_n 1, 1) := dk_27 (dk_at dksX9_isAhead_0 19 rfl rfl)
theorem dX9_isAhead_20 : decode cX9_isAhead 20 = .ok (.istore 4, 2) := dk_54 4 (dk_at dksX9_isAhead_0 20 rfl rfl)
theorem dX9_isAhead_22 : decode cX9_isAhead 22 = .ok (.iload 4, 2) := dk_21 4 (dk_at dksX9_isAhead_0 22 rfl rfl)
theorem dX9_isAhead_24 : decode cX9_isAhead 24 = .ok (.aload_n 0, 1) := dk_42 (dk_at dksX9_isAhead_1 0 rfl rfl)
theorem dX9_isAhead_25 : decode cX9_isAhead 25 = .ok (.getfield 13, 3) := dk_180 0 13 (dk_at dksX9_isAhead_1 1 rfl rfl)
theorem dX9_isAhead_28 : decode cX9_isAhead 28 = .ok (.arraylength, 1) := dk_190 (dk_at dksX9_isAhead_1 4 rfl rfl)
theorem dX9_isAhead_29 : decode cX9_isAhead 29 = .ok (.if_icmp .ge 32, 3) := dk_162 0 32 (dk_at dksX9_isAhead_1 5 rfl rfl)
theorem dX9_isAhead_32 : decode cX9_isAhead 32 = .ok (.aload_n 0, 1) := dk_42 (dk_at dksX9_isAhead_1 8 rfl rfl)
theorem dX9_isAhead_33 : decode cX9_isAhead 33 = .ok (.getfield 13, 3) := dk_180 0 13 (dk_at dksX9_isAhead_1 9 rfl rfl)
theorem dX9_isAhead_36 : decode cX9_isAhead 36 = .ok (.iload 4, 2) := dk_21 4 (dk_at dksX9_isAhead_1 12 rfl rfl)
theorem dX9_isAhead_38 : decode cX9_isAhead 38 = .ok (.iaload, 1) := dk_46 (dk_at dksX9_isAhead_1 14 rfl rfl)
theorem dX9_isAhead_39 : decode cX9_isAhead 39 = .ok (.aload_n 2, 1) := dk_44 (dk_at dksX9_isAhead_1 15 rfl rfl)
theorem dX9_isAhead_40 : decode cX9_isAhead 40 = .ok (.getfield 13, 3) := dk_180 0 13 (dk_at dksX9_isAhead_1 16 rfl rfl)
theorem dX9_isAhead_43 : decode cX9_isAhead 43 = .ok (.iload_n 3, 1) := dk_29 (dk_at dksX9_isAhead_1 19 rfl rfl)
theorem dX9_isAhead_44 : decode cX9_isAhead 44 = .ok (.iload 4, 2) := dk_21 4 (dk_at dksX9_isAhead_1 20 rfl rfl)
theorem dX9_isAhead_46 : decode cX9_isAhead 46 = .ok (.iadd, 1) := dk_96 (dk_at dksX9_isAhead_1 22 rfl rfl)
theorem dX9_isAhead_47 : decode cX9_isAhead 47 = .ok (.iload_n 1, 1) := dk_27 (dk_at dksX9_isAhead_1 23 rfl rfl)
theorem dX9_isAhead_48 : decode cX9_isAhead 48 = .ok (.isub, 1) := dk_100 (dk_at dksX9_isAhead_2 0 rfl rfl)
theorem dX9_isAhead_49 : decode cX9_isAhead 49 = .ok (.iaload, 1) := dk_46 (dk_at dksX9_isAhead_2 1 rfl rfl)
theorem dX9_isAhead_50 : decode cX9_isAhead 50 = .ok (.if_icmp .eq 5, 3) := dk_159 0 5 (dk_at dksX9_isAhead_2 2 rfl rfl)
theorem dX9_isAhead_53 : decode cX9_isAhead 53 = .ok (.iconst 0, 1) := dk_3 (dk_at dksX9_isAhead_2 5 rfl rfl)
theorem dX9_isAhead_54 : decode cX9_isAhead 54 = .ok (.ireturn, 1) := dk_172 (dk_at dksX9_isAhead_2 6 rfl rfl)
theorem dX9_isAhead_55 : decode cX9_isAhead 55 = .ok (.iinc 4 1, 3) := dk_132 4 1 (dk_at dksX9_isAhead_2 7 rfl rfl)
theorem dX9_isAhead_58 : decode cX9_isAhead 58 = .ok (.goto (-36), 3) := dk_167 255 220 (dk_at dksX9_isAhead_2 10 rfl rfl)
theorem dX9_isAhead_61 : decode cX9_isAhead 61 = .ok (.iconst 1, 1) := dk_4 (dk_at dksX9_isAhead_2 13 rfl rfl)
theorem dX9_isAhead_62 : decode cX9_isAhead 62 = .ok (.ireturn, 1) := dk_172 (dk_at dksX9_isAhead_2 14 rfl rfl)
theorem q140 : (Jvm.Cond.initialized "RaisedPress$Rule") ∈ lw_all := lw_g (lw_at lw_m1 21 rfl) rfl
theorem q769 : (Jvm.Cond.instanceMethod ({ cls := "RaisedPress$Rule", name := "<init>", desc := "([B[I)V" } : Jvm.MethodName)) ∈ lw_all := lw_g (lw_at lw_m3 170 rfl) rfl
theorem q770 : (Jvm.Cond.code ({ cls := "RaisedPress$Rule", name := "<init>", desc := "([B[I)V" } : Jvm.MethodName) prog_11_method_1_code (3 : Nat) (Option.none : Option Jvm.ClassFile.FieldType)) ∈ lw_all := lw_g (lw_at lw_m3 171 rfl) rfl
theorem q771 : (Jvm.Cond.methodLink "RaisedPress$Rule" (1 : Nat) ({ cls := "java/lang/Object", name := "<init>", desc := "()V" } : Jvm.MethodName)) ∈ lw_all := lw_g (lw_at lw_m3 172 rfl) rfl
theorem q772 : (Jvm.Cond.fieldLink "RaisedPress$Rule" (7 : Nat) "RaisedPress$Rule" "letters" "[B") ∈ lw_all := lw_g (lw_at lw_m3 173 rfl) rfl
theorem q775 : (Jvm.Cond.fieldLink "RaisedPress$Rule" (13 : Nat) "RaisedPress$Rule" "cells" "[I") ∈ lw_all := lw_g (lw_at lw_m3 176 rfl) rfl
theorem q779 : (Jvm.Cond.soleField "RaisedPress$Rule" "letters") ∈ lw_all := lw_g (lw_at lw_m3 180 rfl) rfl
theorem q781 : (Jvm.Cond.soleField "RaisedPress$Rule" "cells") ∈ lw_all := lw_g (lw_at lw_m3 182 rfl) rfl
theorem q823 : (Jvm.Cond.declares ({ cls := "RaisedPress$Rule", name := "told", desc := "()I" } : Jvm.MethodName)) ∈ lw_tbl := lw_at lw_m3 224 rfl
theorem q824 : (Jvm.Cond.sameMethod "RaisedPress$Rule" "RaisedPress$Rule" "told" "()I") ∈ lw_all := lw_g (lw_at lw_m3 225 rfl) rfl
theorem q841 : (Jvm.Cond.instanceMethod ({ cls := "RaisedPress$Rule", name := "isLike", desc := "(LRaisedPress$Rule;)Z" } : Jvm.MethodName)) ∈ lw_all := lw_g (lw_at lw_m4 2 rfl) rfl
theorem q842 : (Jvm.Cond.sameMethod "RaisedPress$Rule" "RaisedPress$Rule" "isLike" "(LRaisedPress$Rule;)Z") ∈ lw_all := lw_g (lw_at lw_m4 3 rfl) rfl
theorem q848 : (Jvm.Cond.code ({ cls := "RaisedPress$Rule", name := "isLike", desc := "(LRaisedPress$Rule;)Z" } : Jvm.MethodName) prog_11_method_5_code (3 : Nat) (Option.some Jvm.ClassFile.FieldType.boolean)) ∈ lw_all := lw_g (lw_at lw_m4 9 rfl) rfl
theorem q849 : (Jvm.Cond.methodLink "RaisedPress$Rule" (17 : Nat) ({ cls := "RaisedPress$Rule", name := "told", desc := "()I" } : Jvm.MethodName)) ∈ lw_all := lw_g (lw_at lw_m4 10 rfl) rfl
theorem q924 : (Jvm.Cond.declares ({ cls := "RaisedPress$Rule", name := "may", desc := "(ZZ)Z" } : Jvm.MethodName)) ∈ lw_tbl := lw_at lw_m4 85 rfl
theorem q925 : (Jvm.Cond.sameMethod "RaisedPress$Rule" "RaisedPress$Rule" "may" "(ZZ)Z") ∈ lw_all := lw_g (lw_at lw_m4 86 rfl) rfl
theorem q964 : (Jvm.Cond.instanceMethod ({ cls := "RaisedPress$Rule", name := "isJust", desc := "(I)Z" } : Jvm.MethodName)) ∈ lw_all := lw_g (lw_at lw_m4 125 rfl) rfl
theorem q965 : (Jvm.Cond.sameMethod "RaisedPress$Rule" "RaisedPress$Rule" "isJust" "(I)Z") ∈ lw_all := lw_g (lw_at lw_m4 126 rfl) rfl
theorem q971 : (Jvm.Cond.code ({ cls := "RaisedPress$Rule", name := "isJust", desc := "(I)Z" } : Jvm.MethodName) prog_11_method_4_code (2 : Nat) (Option.some Jvm.ClassFile.FieldType.boolean)) ∈ lw_all := lw_g (lw_at lw_m4 132 rfl) rfl
theorem q1388 : (Jvm.Cond.instanceMethod ({ cls := "RaisedPress$Rule", name := "isAhead", desc := "(ILRaisedPress$Rule;I)Z" } : Jvm.MethodName)) ∈ lw_all := lw_g (lw_at lw_m6 69 rfl) rfl
theorem q1389 : (Jvm.Cond.sameMethod "RaisedPress$Rule" "RaisedPress$Rule" "isAhead" "(ILRaisedPress$Rule;I)Z") ∈ lw_all := lw_g (lw_at lw_m6 70 rfl) rfl
theorem q1395 : (Jvm.Cond.code ({ cls := "RaisedPress$Rule", name := "isAhead", desc := "(ILRaisedPress$Rule;I)Z" } : Jvm.MethodName) prog_11_method_6_code (5 : Nat) (Option.some Jvm.ClassFile.FieldType.boolean)) ∈ lw_all := lw_g (lw_at lw_m6 76 rfl) rfl
/-! RaisedPress$Begin -/
set_option maxRecDepth 100000
def RX10 : String := "RaisedPress$Begin"
def TX10 : u_T := fun k => match k with
  | 0 => ("RaisedPress$Rule", "letters", "[B", true)
  | _ => ("RaisedPress$Rule", "cells", "[I", true)
def tyX10 : Nat → FieldType := fun k => match k with
  | 0 => .array .byte
  | _ => .array .int
abbrev wsX100 : List Cond := u_ws RX10 TX10 2
theorem nmX10 : ∀ a, a < 2 → ∀ b, b < 2 → a ≠ b → (TX10 a).2.1 ≠ (TX10 b).2.1 := by decide +kernel
theorem tyX10_ok : ∀ k, k < 2 → parseFieldDescriptor (TX10 k).2.2.1 = some (tyX10 k) := by decide +kernel
abbrev cX10_init : ByteArray := prog_5_method_1_code
def yX10_init : MethodName := ⟨RX10, "<init>", "([B[I)V"⟩
def dkwX10_init_0 : List UInt8 := [42, 43, 44, 183, 0, 1, 177]
abbrev dktX10_init_0 : List UInt8 := dkwX10_init_0 ++ []
theorem dksX10_init_0 : cX10_init.data.toList.drop 0 = dktX10_init_0 := by decide +kernel
theorem dX10_init_0 : decode cX10_init 0 = .ok (.aload_n 0, 1) := dk_42 (dk_at dksX10_init_0 0 rfl rfl)
theorem dX10_init_1 : decode cX10_init 1 = .ok (.aload_n 1, 1) := dk_43 (dk_at dksX10_init_0 1 rfl rfl)
theorem dX10_init_2 : decode cX10_init 2 = .ok (.aload_n 2, 1) := dk_44 (dk_at dksX10_init_0 2 rfl rfl)
theorem dX10_init_3 : decode cX10_init 3 = .ok (.invokespecial 1, 3) := dk_183 0 1 (dk_at dksX10_init_0 3 rfl rfl)
theorem dX10_init_6 : decode cX10_init 6 = .ok (.return_, 1) := dk_177 (dk_at dksX10_init_0 6 rfl rfl)
abbrev cX10_told : ByteArray := prog_5_method_3_code
def yX10_told : MethodName := ⟨RX10, "told", "()I"⟩
theorem dX10_told_0 : decode cX10_told 0 = .ok (.iconst 1, 1) := by decide +kernel
theorem dX10_told_1 : decode cX10_told 1 = .ok (.ireturn, 1) := by decide +kernel
abbrev cX10_may : ByteArray := prog_5_method_2_code
def yX10_may : MethodName := ⟨RX10, "may", "(ZZ)Z"⟩
def dkwX10_may_0 : List UInt8 := [27, 153, 0, 11, 28, 154, 0, 7, 4, 167, 0, 4, 3, 172]
abbrev dktX10_may_0 : List UInt8 := dkwX10_may_0 ++ []
theorem dksX10_may_0 : cX10_may.data.toList.drop 0 = dktX10_may_0 := by decide +kernel
theorem dX10_may_0 : decode cX10_may 0 = .ok (.iload_n 1, 1) := dk_27 (dk_at dksX10_may_0 0 rfl rfl)
theorem dX10_may_1 : decode cX10_may 1 = .ok (.ifCond .eq 11, 3) := dk_153 0 11 (dk_at dksX10_may_0 1 rfl rfl)
theorem dX10_may_4 : decode cX10_may 4 = .ok (.iload_n 2, 1) := dk_28 (dk_at dksX10_may_0 4 rfl rfl)
theorem dX10_may_5 : decode cX10_may 5 = .ok (.ifCond .ne 7, 3) := dk_154 0 7 (dk_at dksX10_may_0 5 rfl rfl)
theorem dX10_may_8 : decode cX10_may 8 = .ok (.iconst 1, 1) := dk_4 (dk_at dksX10_may_0 8 rfl rfl)
theorem dX10_may_9 : decode cX10_may 9 = .ok (.goto 4, 3) := dk_167 0 4 (dk_at dksX10_may_0 9 rfl rfl)
theorem dX10_may_12 : decode cX10_may 12 = .ok (.iconst 0, 1) := dk_3 (dk_at dksX10_may_0 12 rfl rfl)
theorem dX10_may_13 : decode cX10_may 13 = .ok (.ireturn, 1) := dk_172 (dk_at dksX10_may_0 13 rfl rfl)
theorem q141 : (Jvm.Cond.initialized "RaisedPress$Begin") ∈ lw_all := lw_g (lw_at lw_m1 22 rfl) rfl
theorem q764 : (Jvm.Cond.instantiable "RaisedPress$Begin" (2 : Nat)) ∈ lw_all := lw_g (lw_at lw_m3 165 rfl) rfl
theorem q766 : (Jvm.Cond.instanceMethod ({ cls := "RaisedPress$Begin", name := "<init>", desc := "([B[I)V" } : Jvm.MethodName)) ∈ lw_all := lw_g (lw_at lw_m3 167 rfl) rfl
theorem q767 : (Jvm.Cond.code ({ cls := "RaisedPress$Begin", name := "<init>", desc := "([B[I)V" } : Jvm.MethodName) prog_5_method_1_code (3 : Nat) (Option.none : Option Jvm.ClassFile.FieldType)) ∈ lw_all := lw_g (lw_at lw_m3 168 rfl) rfl
theorem q768 : (Jvm.Cond.methodLink "RaisedPress$Begin" (1 : Nat) ({ cls := "RaisedPress$Rule", name := "<init>", desc := "([B[I)V" } : Jvm.MethodName)) ∈ lw_all := lw_g (lw_at lw_m3 169 rfl) rfl
theorem q778 : (Jvm.Cond.laysFinal "RaisedPress$Begin" "RaisedPress$Rule" "letters" "[B") ∈ lw_all := lw_g (lw_at lw_m3 179 rfl) rfl
theorem q780 : (Jvm.Cond.laysFinal "RaisedPress$Begin" "RaisedPress$Rule" "cells" "[I") ∈ lw_all := lw_g (lw_at lw_m3 181 rfl) rfl
theorem q782 : (Jvm.Cond.superclass "RaisedPress$Begin" "RaisedPress$Rule") ∈ lw_all := lw_g (lw_at lw_m3 183 rfl) rfl
theorem q831 : (Jvm.Cond.selects "RaisedPress$Begin" ({ cls := "RaisedPress$Rule", name := "told", desc := "()I" } : Jvm.MethodName) ({ cls := "RaisedPress$Begin", name := "told", desc := "()I" } : Jvm.MethodName)) ∈ lw_all := lw_g (lw_at lw_m3 232 rfl) rfl
theorem q832 : (Jvm.Cond.instanceMethod ({ cls := "RaisedPress$Begin", name := "told", desc := "()I" } : Jvm.MethodName)) ∈ lw_all := lw_g (lw_at lw_m3 233 rfl) rfl
theorem q833 : (Jvm.Cond.code ({ cls := "RaisedPress$Begin", name := "told", desc := "()I" } : Jvm.MethodName) prog_5_method_3_code (1 : Nat) (Option.some Jvm.ClassFile.FieldType.int)) ∈ lw_all := lw_g (lw_at lw_m3 234 rfl) rfl
theorem q845 : (Jvm.Cond.selects "RaisedPress$Begin" ({ cls := "RaisedPress$Rule", name := "isLike", desc := "(LRaisedPress$Rule;)Z" } : Jvm.MethodName) ({ cls := "RaisedPress$Rule", name := "isLike", desc := "(LRaisedPress$Rule;)Z" } : Jvm.MethodName)) ∈ lw_all := lw_g (lw_at lw_m4 6 rfl) rfl
theorem q932 : (Jvm.Cond.selects "RaisedPress$Begin" ({ cls := "RaisedPress$Rule", name := "may", desc := "(ZZ)Z" } : Jvm.MethodName) ({ cls := "RaisedPress$Begin", name := "may", desc := "(ZZ)Z" } : Jvm.MethodName)) ∈ lw_all := lw_g (lw_at lw_m4 93 rfl) rfl
theorem q933 : (Jvm.Cond.instanceMethod ({ cls := "RaisedPress$Begin", name := "may", desc := "(ZZ)Z" } : Jvm.MethodName)) ∈ lw_all := lw_g (lw_at lw_m4 94 rfl) rfl
theorem q934 : (Jvm.Cond.code ({ cls := "RaisedPress$Begin", name := "may", desc := "(ZZ)Z" } : Jvm.MethodName) prog_5_method_2_code (3 : Nat) (Option.some Jvm.ClassFile.FieldType.boolean)) ∈ lw_all := lw_g (lw_at lw_m4 95 rfl) rfl
theorem q968 : (Jvm.Cond.selects "RaisedPress$Begin" ({ cls := "RaisedPress$Rule", name := "isJust", desc := "(I)Z" } : Jvm.MethodName) ({ cls := "RaisedPress$Rule", name := "isJust", desc := "(I)Z" } : Jvm.MethodName)) ∈ lw_all := lw_g (lw_at lw_m4 129 rfl) rfl
theorem q1392 : (Jvm.Cond.selects "RaisedPress$Begin" ({ cls := "RaisedPress$Rule", name := "isAhead", desc := "(ILRaisedPress$Rule;I)Z" } : Jvm.MethodName) ({ cls := "RaisedPress$Rule", name := "isAhead", desc := "(ILRaisedPress$Rule;I)Z" } : Jvm.MethodName)) ∈ lw_all := lw_g (lw_at lw_m6 73 rfl) rfl
theorem q2200 : (Jvm.Cond.castable "RaisedPress$Begin" "RaisedPress$Rule") ∈ lw_tbl := lw_at lw_m9 161 rfl
theorem in_X10 : ∀ w ∈ wsX100, w ∈ lw_all := lw_in wsX100 [778, 780] (by decide +kernel) (by decide +kernel)
/-! RaisedPress$Middle -/
set_option maxRecDepth 100000
def RX11 : String := "RaisedPress$Middle"
def TX11 : u_T := fun k => match k with
  | 0 => ("RaisedPress$Rule", "letters", "[B", true)
  | _ => ("RaisedPress$Rule", "cells", "[I", true)
def tyX11 : Nat → FieldType := fun k => match k with
  | 0 => .array .byte
  | _ => .array .int
abbrev wsX110 : List Cond := u_ws RX11 TX11 2
theorem nmX11 : ∀ a, a < 2 → ∀ b, b < 2 → a ≠ b → (TX11 a).2.1 ≠ (TX11 b).2.1 := by decide +kernel
theorem tyX11_ok : ∀ k, k < 2 → parseFieldDescriptor (TX11 k).2.2.1 = some (tyX11 k) := by decide +kernel
abbrev cX11_init : ByteArray := prog_8_method_1_code
def yX11_init : MethodName := ⟨RX11, "<init>", "([B[I)V"⟩
def dkwX11_init_0 : List UInt8 := [42, 43, 44, 183, 0, 1, 177]
abbrev dktX11_init_0 : List UInt8 := dkwX11_init_0 ++ []
theorem dksX11_init_0 : cX11_init.data.toList.drop 0 = dktX11_init_0 := by decide +kernel
theorem dX11_init_0 : decode cX11_init 0 = .ok (.aload_n 0, 1) := dk_42 (dk_at dksX11_init_0 0 rfl rfl)
theorem dX11_init_1 : decode cX11_init 1 = .ok (.aload_n 1, 1) := dk_43 (dk_at dksX11_init_0 1 rfl rfl)
theorem dX11_init_2 : decode cX11_init 2 = .ok (.aload_n 2, 1) := dk_44 (dk_at dksX11_init_0 2 rfl rfl)
theorem dX11_init_3 : decode cX11_init 3 = .ok (.invokespecial 1, 3) := dk_183 0 1 (dk_at dksX11_init_0 3 rfl rfl)
theorem dX11_init_6 : decode cX11_init 6 = .ok (.return_, 1) := dk_177 (dk_at dksX11_init_0 6 rfl rfl)
abbrev cX11_told : ByteArray := prog_8_method_3_code
def yX11_told : MethodName := ⟨RX11, "told", "()I"⟩
theorem dX11_told_0 : decode cX11_told 0 = .ok (.iconst 2, 1) := by decide +kernel
theorem dX11_told_1 : decode cX11_told 1 = .ok (.ireturn, 1) := by decide +kernel
abbrev cX11_may : ByteArray := prog_8_method_2_code
def yX11_may : MethodName := ⟨RX11, "may", "(ZZ)Z"⟩
def dkwX11_may_0 : List UInt8 := [27, 154, 0, 11, 28, 154, 0, 7, 4, 167, 0, 4, 3, 172]
abbrev dktX11_may_0 : List UInt8 := dkwX11_may_0 ++ []
theorem dksX11_may_0 : cX11_may.data.toList.drop 0 = dktX11_may_0 := by decide +kernel
theorem dX11_may_0 : decode cX11_may 0 = .ok (.iload_n 1, 1) := dk_27 (dk_at dksX11_may_0 0 rfl rfl)
theorem dX11_may_1 : decode cX11_may 1 = .ok (.ifCond .ne 11, 3) := dk_154 0 11 (dk_at dksX11_may_0 1 rfl rfl)
theorem dX11_may_4 : decode cX11_may 4 = .ok (.iload_n 2, 1) := dk_28 (dk_at dksX11_may_0 4 rfl rfl)
theorem dX11_may_5 : decode cX11_may 5 = .ok (.ifCond .ne 7, 3) := dk_154 0 7 (dk_at dksX11_may_0 5 rfl rfl)
theorem dX11_may_8 : decode cX11_may 8 = .ok (.iconst 1, 1) := dk_4 (dk_at dksX11_may_0 8 rfl rfl)
theorem dX11_may_9 : decode cX11_may 9 = .ok (.goto 4, 3) := dk_167 0 4 (dk_at dksX11_may_0 9 rfl rfl)
theorem dX11_may_12 : decode cX11_may 12 = .ok (.iconst 0, 1) := dk_3 (dk_at dksX11_may_0 12 rfl rfl)
theorem dX11_may_13 : decode cX11_may 13 = .ok (.ireturn, 1) := dk_172 (dk_at dksX11_may_0 13 rfl rfl)
theorem q142 : (Jvm.Cond.initialized "RaisedPress$Middle") ∈ lw_all := lw_g (lw_at lw_m1 23 rfl) rfl
theorem q785 : (Jvm.Cond.instantiable "RaisedPress$Middle" (2 : Nat)) ∈ lw_all := lw_g (lw_at lw_m3 186 rfl) rfl
theorem q787 : (Jvm.Cond.instanceMethod ({ cls := "RaisedPress$Middle", name := "<init>", desc := "([B[I)V" } : Jvm.MethodName)) ∈ lw_all := lw_g (lw_at lw_m3 188 rfl) rfl
theorem q788 : (Jvm.Cond.code ({ cls := "RaisedPress$Middle", name := "<init>", desc := "([B[I)V" } : Jvm.MethodName) prog_8_method_1_code (3 : Nat) (Option.none : Option Jvm.ClassFile.FieldType)) ∈ lw_all := lw_g (lw_at lw_m3 189 rfl) rfl
theorem q789 : (Jvm.Cond.methodLink "RaisedPress$Middle" (1 : Nat) ({ cls := "RaisedPress$Rule", name := "<init>", desc := "([B[I)V" } : Jvm.MethodName)) ∈ lw_all := lw_g (lw_at lw_m3 190 rfl) rfl
theorem q790 : (Jvm.Cond.laysFinal "RaisedPress$Middle" "RaisedPress$Rule" "letters" "[B") ∈ lw_all := lw_g (lw_at lw_m3 191 rfl) rfl
theorem q791 : (Jvm.Cond.laysFinal "RaisedPress$Middle" "RaisedPress$Rule" "cells" "[I") ∈ lw_all := lw_g (lw_at lw_m3 192 rfl) rfl
theorem q792 : (Jvm.Cond.superclass "RaisedPress$Middle" "RaisedPress$Rule") ∈ lw_all := lw_g (lw_at lw_m3 193 rfl) rfl
theorem q837 : (Jvm.Cond.selects "RaisedPress$Middle" ({ cls := "RaisedPress$Rule", name := "told", desc := "()I" } : Jvm.MethodName) ({ cls := "RaisedPress$Middle", name := "told", desc := "()I" } : Jvm.MethodName)) ∈ lw_all := lw_g (lw_at lw_m3 238 rfl) rfl
theorem q838 : (Jvm.Cond.instanceMethod ({ cls := "RaisedPress$Middle", name := "told", desc := "()I" } : Jvm.MethodName)) ∈ lw_all := lw_g (lw_at lw_m3 239 rfl) rfl
theorem q839 : (Jvm.Cond.code ({ cls := "RaisedPress$Middle", name := "told", desc := "()I" } : Jvm.MethodName) prog_8_method_3_code (1 : Nat) (Option.some Jvm.ClassFile.FieldType.int)) ∈ lw_all := lw_g (lw_at lw_m4 0 rfl) rfl
theorem q847 : (Jvm.Cond.selects "RaisedPress$Middle" ({ cls := "RaisedPress$Rule", name := "isLike", desc := "(LRaisedPress$Rule;)Z" } : Jvm.MethodName) ({ cls := "RaisedPress$Rule", name := "isLike", desc := "(LRaisedPress$Rule;)Z" } : Jvm.MethodName)) ∈ lw_all := lw_g (lw_at lw_m4 8 rfl) rfl
theorem q938 : (Jvm.Cond.selects "RaisedPress$Middle" ({ cls := "RaisedPress$Rule", name := "may", desc := "(ZZ)Z" } : Jvm.MethodName) ({ cls := "RaisedPress$Middle", name := "may", desc := "(ZZ)Z" } : Jvm.MethodName)) ∈ lw_all := lw_g (lw_at lw_m4 99 rfl) rfl
theorem q939 : (Jvm.Cond.instanceMethod ({ cls := "RaisedPress$Middle", name := "may", desc := "(ZZ)Z" } : Jvm.MethodName)) ∈ lw_all := lw_g (lw_at lw_m4 100 rfl) rfl
theorem q940 : (Jvm.Cond.code ({ cls := "RaisedPress$Middle", name := "may", desc := "(ZZ)Z" } : Jvm.MethodName) prog_8_method_2_code (3 : Nat) (Option.some Jvm.ClassFile.FieldType.boolean)) ∈ lw_all := lw_g (lw_at lw_m4 101 rfl) rfl
theorem q970 : (Jvm.Cond.selects "RaisedPress$Middle" ({ cls := "RaisedPress$Rule", name := "isJust", desc := "(I)Z" } : Jvm.MethodName) ({ cls := "RaisedPress$Rule", name := "isJust", desc := "(I)Z" } : Jvm.MethodName)) ∈ lw_all := lw_g (lw_at lw_m4 131 rfl) rfl
theorem q1394 : (Jvm.Cond.selects "RaisedPress$Middle" ({ cls := "RaisedPress$Rule", name := "isAhead", desc := "(ILRaisedPress$Rule;I)Z" } : Jvm.MethodName) ({ cls := "RaisedPress$Rule", name := "isAhead", desc := "(ILRaisedPress$Rule;I)Z" } : Jvm.MethodName)) ∈ lw_all := lw_g (lw_at lw_m6 75 rfl) rfl
theorem q2201 : (Jvm.Cond.castable "RaisedPress$Middle" "RaisedPress$Rule") ∈ lw_tbl := lw_at lw_m9 162 rfl
theorem in_X11 : ∀ w ∈ wsX110, w ∈ lw_all := lw_in wsX110 [790, 791] (by decide +kernel) (by decide +kernel)
/-! RaisedPress$Ending -/
set_option maxRecDepth 100000
def RX12 : String := "RaisedPress$Ending"
def TX12 : u_T := fun k => match k with
  | 0 => ("RaisedPress$Rule", "letters", "[B", true)
  | _ => ("RaisedPress$Rule", "cells", "[I", true)
def tyX12 : Nat → FieldType := fun k => match k with
  | 0 => .array .byte
  | _ => .array .int
abbrev wsX120 : List Cond := u_ws RX12 TX12 2
theorem nmX12 : ∀ a, a < 2 → ∀ b, b < 2 → a ≠ b → (TX12 a).2.1 ≠ (TX12 b).2.1 := by decide +kernel
theorem tyX12_ok : ∀ k, k < 2 → parseFieldDescriptor (TX12 k).2.2.1 = some (tyX12 k) := by decide +kernel
abbrev cX12_init : ByteArray := prog_6_method_1_code
def yX12_init : MethodName := ⟨RX12, "<init>", "([B[I)V"⟩
def dkwX12_init_0 : List UInt8 := [42, 43, 44, 183, 0, 1, 177]
abbrev dktX12_init_0 : List UInt8 := dkwX12_init_0 ++ []
theorem dksX12_init_0 : cX12_init.data.toList.drop 0 = dktX12_init_0 := by decide +kernel
theorem dX12_init_0 : decode cX12_init 0 = .ok (.aload_n 0, 1) := dk_42 (dk_at dksX12_init_0 0 rfl rfl)
theorem dX12_init_1 : decode cX12_init 1 = .ok (.aload_n 1, 1) := dk_43 (dk_at dksX12_init_0 1 rfl rfl)
theorem dX12_init_2 : decode cX12_init 2 = .ok (.aload_n 2, 1) := dk_44 (dk_at dksX12_init_0 2 rfl rfl)
theorem dX12_init_3 : decode cX12_init 3 = .ok (.invokespecial 1, 3) := dk_183 0 1 (dk_at dksX12_init_0 3 rfl rfl)
theorem dX12_init_6 : decode cX12_init 6 = .ok (.return_, 1) := dk_177 (dk_at dksX12_init_0 6 rfl rfl)
abbrev cX12_told : ByteArray := prog_6_method_3_code
def yX12_told : MethodName := ⟨RX12, "told", "()I"⟩
theorem dX12_told_0 : decode cX12_told 0 = .ok (.iconst 3, 1) := by decide +kernel
theorem dX12_told_1 : decode cX12_told 1 = .ok (.ireturn, 1) := by decide +kernel
abbrev cX12_may : ByteArray := prog_6_method_2_code
def yX12_may : MethodName := ⟨RX12, "may", "(ZZ)Z"⟩
def dkwX12_may_0 : List UInt8 := [27, 154, 0, 11, 28, 153, 0, 7, 4, 167, 0, 4, 3, 172]
abbrev dktX12_may_0 : List UInt8 := dkwX12_may_0 ++ []
theorem dksX12_may_0 : cX12_may.data.toList.drop 0 = dktX12_may_0 := by decide +kernel
theorem dX12_may_0 : decode cX12_may 0 = .ok (.iload_n 1, 1) := dk_27 (dk_at dksX12_may_0 0 rfl rfl)
theorem dX12_may_1 : decode cX12_may 1 = .ok (.ifCond .ne 11, 3) := dk_154 0 11 (dk_at dksX12_may_0 1 rfl rfl)
theorem dX12_may_4 : decode cX12_may 4 = .ok (.iload_n 2, 1) := dk_28 (dk_at dksX12_may_0 4 rfl rfl)
theorem dX12_may_5 : decode cX12_may 5 = .ok (.ifCond .eq 7, 3) := dk_153 0 7 (dk_at dksX12_may_0 5 rfl rfl)
theorem dX12_may_8 : decode cX12_may 8 = .ok (.iconst 1, 1) := dk_4 (dk_at dksX12_may_0 8 rfl rfl)
theorem dX12_may_9 : decode cX12_may 9 = .ok (.goto 4, 3) := dk_167 0 4 (dk_at dksX12_may_0 9 rfl rfl)
theorem dX12_may_12 : decode cX12_may 12 = .ok (.iconst 0, 1) := dk_3 (dk_at dksX12_may_0 12 rfl rfl)
theorem dX12_may_13 : decode cX12_may 13 = .ok (.ireturn, 1) := dk_172 (dk_at dksX12_may_0 13 rfl rfl)
theorem q143 : (Jvm.Cond.initialized "RaisedPress$Ending") ∈ lw_all := lw_g (lw_at lw_m1 24 rfl) rfl
theorem q795 : (Jvm.Cond.instantiable "RaisedPress$Ending" (2 : Nat)) ∈ lw_all := lw_g (lw_at lw_m3 196 rfl) rfl
theorem q797 : (Jvm.Cond.instanceMethod ({ cls := "RaisedPress$Ending", name := "<init>", desc := "([B[I)V" } : Jvm.MethodName)) ∈ lw_all := lw_g (lw_at lw_m3 198 rfl) rfl
theorem q798 : (Jvm.Cond.code ({ cls := "RaisedPress$Ending", name := "<init>", desc := "([B[I)V" } : Jvm.MethodName) prog_6_method_1_code (3 : Nat) (Option.none : Option Jvm.ClassFile.FieldType)) ∈ lw_all := lw_g (lw_at lw_m3 199 rfl) rfl
theorem q799 : (Jvm.Cond.methodLink "RaisedPress$Ending" (1 : Nat) ({ cls := "RaisedPress$Rule", name := "<init>", desc := "([B[I)V" } : Jvm.MethodName)) ∈ lw_all := lw_g (lw_at lw_m3 200 rfl) rfl
theorem q800 : (Jvm.Cond.laysFinal "RaisedPress$Ending" "RaisedPress$Rule" "letters" "[B") ∈ lw_all := lw_g (lw_at lw_m3 201 rfl) rfl
theorem q801 : (Jvm.Cond.laysFinal "RaisedPress$Ending" "RaisedPress$Rule" "cells" "[I") ∈ lw_all := lw_g (lw_at lw_m3 202 rfl) rfl
theorem q802 : (Jvm.Cond.superclass "RaisedPress$Ending" "RaisedPress$Rule") ∈ lw_all := lw_g (lw_at lw_m3 203 rfl) rfl
theorem q834 : (Jvm.Cond.selects "RaisedPress$Ending" ({ cls := "RaisedPress$Rule", name := "told", desc := "()I" } : Jvm.MethodName) ({ cls := "RaisedPress$Ending", name := "told", desc := "()I" } : Jvm.MethodName)) ∈ lw_all := lw_g (lw_at lw_m3 235 rfl) rfl
theorem q835 : (Jvm.Cond.instanceMethod ({ cls := "RaisedPress$Ending", name := "told", desc := "()I" } : Jvm.MethodName)) ∈ lw_all := lw_g (lw_at lw_m3 236 rfl) rfl
theorem q836 : (Jvm.Cond.code ({ cls := "RaisedPress$Ending", name := "told", desc := "()I" } : Jvm.MethodName) prog_6_method_3_code (1 : Nat) (Option.some Jvm.ClassFile.FieldType.int)) ∈ lw_all := lw_g (lw_at lw_m3 237 rfl) rfl
theorem q846 : (Jvm.Cond.selects "RaisedPress$Ending" ({ cls := "RaisedPress$Rule", name := "isLike", desc := "(LRaisedPress$Rule;)Z" } : Jvm.MethodName) ({ cls := "RaisedPress$Rule", name := "isLike", desc := "(LRaisedPress$Rule;)Z" } : Jvm.MethodName)) ∈ lw_all := lw_g (lw_at lw_m4 7 rfl) rfl
theorem q935 : (Jvm.Cond.selects "RaisedPress$Ending" ({ cls := "RaisedPress$Rule", name := "may", desc := "(ZZ)Z" } : Jvm.MethodName) ({ cls := "RaisedPress$Ending", name := "may", desc := "(ZZ)Z" } : Jvm.MethodName)) ∈ lw_all := lw_g (lw_at lw_m4 96 rfl) rfl
theorem q936 : (Jvm.Cond.instanceMethod ({ cls := "RaisedPress$Ending", name := "may", desc := "(ZZ)Z" } : Jvm.MethodName)) ∈ lw_all := lw_g (lw_at lw_m4 97 rfl) rfl
theorem q937 : (Jvm.Cond.code ({ cls := "RaisedPress$Ending", name := "may", desc := "(ZZ)Z" } : Jvm.MethodName) prog_6_method_2_code (3 : Nat) (Option.some Jvm.ClassFile.FieldType.boolean)) ∈ lw_all := lw_g (lw_at lw_m4 98 rfl) rfl
theorem q969 : (Jvm.Cond.selects "RaisedPress$Ending" ({ cls := "RaisedPress$Rule", name := "isJust", desc := "(I)Z" } : Jvm.MethodName) ({ cls := "RaisedPress$Rule", name := "isJust", desc := "(I)Z" } : Jvm.MethodName)) ∈ lw_all := lw_g (lw_at lw_m4 130 rfl) rfl
theorem q1393 : (Jvm.Cond.selects "RaisedPress$Ending" ({ cls := "RaisedPress$Rule", name := "isAhead", desc := "(ILRaisedPress$Rule;I)Z" } : Jvm.MethodName) ({ cls := "RaisedPress$Rule", name := "isAhead", desc := "(ILRaisedPress$Rule;I)Z" } : Jvm.MethodName)) ∈ lw_all := lw_g (lw_at lw_m6 74 rfl) rfl
theorem q2202 : (Jvm.Cond.castable "RaisedPress$Ending" "RaisedPress$Rule") ∈ lw_tbl := lw_at lw_m9 163 rfl
theorem in_X12 : ∀ w ∈ wsX120, w ∈ lw_all := lw_in wsX120 [800, 801] (by decide +kernel) (by decide +kernel)
/-! RaisedPress$Alone -/
set_option maxRecDepth 100000
def RX13 : String := "RaisedPress$Alone"
def TX13 : u_T := fun k => match k with
  | 0 => ("RaisedPress$Rule", "letters", "[B", true)
  | _ => ("RaisedPress$Rule", "cells", "[I", true)
def tyX13 : Nat → FieldType := fun k => match k with
  | 0 => .array .byte
  | _ => .array .int
abbrev wsX130 : List Cond := u_ws RX13 TX13 2
theorem nmX13 : ∀ a, a < 2 → ∀ b, b < 2 → a ≠ b → (TX13 a).2.1 ≠ (TX13 b).2.1 := by decide +kernel
theorem tyX13_ok : ∀ k, k < 2 → parseFieldDescriptor (TX13 k).2.2.1 = some (tyX13 k) := by decide +kernel
abbrev cX13_init : ByteArray := prog_2_method_1_code
def yX13_init : MethodName := ⟨RX13, "<init>", "([B[I)V"⟩
def dkwX13_init_0 : List UInt8 := [42, 43, 44, 183, 0, 1, 177]
abbrev dktX13_init_0 : List UInt8 := dkwX13_init_0 ++ []
theorem dksX13_init_0 : cX13_init.data.toList.drop 0 = dktX13_init_0 := by decide +kernel
theorem dX13_init_0 : decode cX13_init 0 = .ok (.aload_n 0, 1) := dk_42 (dk_at dksX13_init_0 0 rfl rfl)
theorem dX13_init_1 : decode cX13_init 1 = .ok (.aload_n 1, 1) := dk_43 (dk_at dksX13_init_0 1 rfl rfl)
theorem dX13_init_2 : decode cX13_init 2 = .ok (.aload_n 2, 1) := dk_44 (dk_at dksX13_init_0 2 rfl rfl)
theorem dX13_init_3 : decode cX13_init 3 = .ok (.invokespecial 1, 3) := dk_183 0 1 (dk_at dksX13_init_0 3 rfl rfl)
theorem dX13_init_6 : decode cX13_init 6 = .ok (.return_, 1) := dk_177 (dk_at dksX13_init_0 6 rfl rfl)
abbrev cX13_told : ByteArray := prog_2_method_3_code
def yX13_told : MethodName := ⟨RX13, "told", "()I"⟩
theorem dX13_told_0 : decode cX13_told 0 = .ok (.iconst 4, 1) := by decide +kernel
theorem dX13_told_1 : decode cX13_told 1 = .ok (.ireturn, 1) := by decide +kernel
abbrev cX13_may : ByteArray := prog_2_method_2_code
def yX13_may : MethodName := ⟨RX13, "may", "(ZZ)Z"⟩
def dkwX13_may_0 : List UInt8 := [27, 153, 0, 11, 28, 153, 0, 7, 4, 167, 0, 4, 3, 172]
abbrev dktX13_may_0 : List UInt8 := dkwX13_may_0 ++ []
theorem dksX13_may_0 : cX13_may.data.toList.drop 0 = dktX13_may_0 := by decide +kernel
theorem dX13_may_0 : decode cX13_may 0 = .ok (.iload_n 1, 1) := dk_27 (dk_at dksX13_may_0 0 rfl rfl)
theorem dX13_may_1 : decode cX13_may 1 = .ok (.ifCond .eq 11, 3) := dk_153 0 11 (dk_at dksX13_may_0 1 rfl rfl)
theorem dX13_may_4 : decode cX13_may 4 = .ok (.iload_n 2, 1) := dk_28 (dk_at dksX13_may_0 4 rfl rfl)
theorem dX13_may_5 : decode cX13_may 5 = .ok (.ifCond .eq 7, 3) := dk_153 0 7 (dk_at dksX13_may_0 5 rfl rfl)
theorem dX13_may_8 : decode cX13_may 8 = .ok (.iconst 1, 1) := dk_4 (dk_at dksX13_may_0 8 rfl rfl)
theorem dX13_may_9 : decode cX13_may 9 = .ok (.goto 4, 3) := dk_167 0 4 (dk_at dksX13_may_0 9 rfl rfl)
theorem dX13_may_12 : decode cX13_may 12 = .ok (.iconst 0, 1) := dk_3 (dk_at dksX13_may_0 12 rfl rfl)
theorem dX13_may_13 : decode cX13_may 13 = .ok (.ireturn, 1) := dk_172 (dk_at dksX13_may_0 13 rfl rfl)
theorem q144 : (Jvm.Cond.initialized "RaisedPress$Alone") ∈ lw_all := lw_g (lw_at lw_m1 25 rfl) rfl
theorem q805 : (Jvm.Cond.instantiable "RaisedPress$Alone" (2 : Nat)) ∈ lw_all := lw_g (lw_at lw_m3 206 rfl) rfl
theorem q807 : (Jvm.Cond.instanceMethod ({ cls := "RaisedPress$Alone", name := "<init>", desc := "([B[I)V" } : Jvm.MethodName)) ∈ lw_all := lw_g (lw_at lw_m3 208 rfl) rfl
theorem q808 : (Jvm.Cond.code ({ cls := "RaisedPress$Alone", name := "<init>", desc := "([B[I)V" } : Jvm.MethodName) prog_2_method_1_code (3 : Nat) (Option.none : Option Jvm.ClassFile.FieldType)) ∈ lw_all := lw_g (lw_at lw_m3 209 rfl) rfl
theorem q809 : (Jvm.Cond.methodLink "RaisedPress$Alone" (1 : Nat) ({ cls := "RaisedPress$Rule", name := "<init>", desc := "([B[I)V" } : Jvm.MethodName)) ∈ lw_all := lw_g (lw_at lw_m3 210 rfl) rfl
theorem q810 : (Jvm.Cond.laysFinal "RaisedPress$Alone" "RaisedPress$Rule" "letters" "[B") ∈ lw_all := lw_g (lw_at lw_m3 211 rfl) rfl
theorem q811 : (Jvm.Cond.laysFinal "RaisedPress$Alone" "RaisedPress$Rule" "cells" "[I") ∈ lw_all := lw_g (lw_at lw_m3 212 rfl) rfl
theorem q812 : (Jvm.Cond.superclass "RaisedPress$Alone" "RaisedPress$Rule") ∈ lw_all := lw_g (lw_at lw_m3 213 rfl) rfl
theorem q825 : (Jvm.Cond.selects "RaisedPress$Alone" ({ cls := "RaisedPress$Rule", name := "told", desc := "()I" } : Jvm.MethodName) ({ cls := "RaisedPress$Alone", name := "told", desc := "()I" } : Jvm.MethodName)) ∈ lw_all := lw_g (lw_at lw_m3 226 rfl) rfl
theorem q826 : (Jvm.Cond.instanceMethod ({ cls := "RaisedPress$Alone", name := "told", desc := "()I" } : Jvm.MethodName)) ∈ lw_all := lw_g (lw_at lw_m3 227 rfl) rfl
theorem q827 : (Jvm.Cond.code ({ cls := "RaisedPress$Alone", name := "told", desc := "()I" } : Jvm.MethodName) prog_2_method_3_code (1 : Nat) (Option.some Jvm.ClassFile.FieldType.int)) ∈ lw_all := lw_g (lw_at lw_m3 228 rfl) rfl
theorem q843 : (Jvm.Cond.selects "RaisedPress$Alone" ({ cls := "RaisedPress$Rule", name := "isLike", desc := "(LRaisedPress$Rule;)Z" } : Jvm.MethodName) ({ cls := "RaisedPress$Rule", name := "isLike", desc := "(LRaisedPress$Rule;)Z" } : Jvm.MethodName)) ∈ lw_all := lw_g (lw_at lw_m4 4 rfl) rfl
theorem q926 : (Jvm.Cond.selects "RaisedPress$Alone" ({ cls := "RaisedPress$Rule", name := "may", desc := "(ZZ)Z" } : Jvm.MethodName) ({ cls := "RaisedPress$Alone", name := "may", desc := "(ZZ)Z" } : Jvm.MethodName)) ∈ lw_all := lw_g (lw_at lw_m4 87 rfl) rfl
theorem q927 : (Jvm.Cond.instanceMethod ({ cls := "RaisedPress$Alone", name := "may", desc := "(ZZ)Z" } : Jvm.MethodName)) ∈ lw_all := lw_g (lw_at lw_m4 88 rfl) rfl
theorem q928 : (Jvm.Cond.code ({ cls := "RaisedPress$Alone", name := "may", desc := "(ZZ)Z" } : Jvm.MethodName) prog_2_method_2_code (3 : Nat) (Option.some Jvm.ClassFile.FieldType.boolean)) ∈ lw_all := lw_g (lw_at lw_m4 89 rfl) rfl
theorem q966 : (Jvm.Cond.selects "RaisedPress$Alone" ({ cls := "RaisedPress$Rule", name := "isJust", desc := "(I)Z" } : Jvm.MethodName) ({ cls := "RaisedPress$Rule", name := "isJust", desc := "(I)Z" } : Jvm.MethodName)) ∈ lw_all := lw_g (lw_at lw_m4 127 rfl) rfl
theorem q1390 : (Jvm.Cond.selects "RaisedPress$Alone" ({ cls := "RaisedPress$Rule", name := "isAhead", desc := "(ILRaisedPress$Rule;I)Z" } : Jvm.MethodName) ({ cls := "RaisedPress$Rule", name := "isAhead", desc := "(ILRaisedPress$Rule;I)Z" } : Jvm.MethodName)) ∈ lw_all := lw_g (lw_at lw_m6 71 rfl) rfl
theorem q2203 : (Jvm.Cond.castable "RaisedPress$Alone" "RaisedPress$Rule") ∈ lw_tbl := lw_at lw_m9 164 rfl
theorem in_X13 : ∀ w ∈ wsX130, w ∈ lw_all := lw_in wsX130 [810, 811] (by decide +kernel) (by decide +kernel)
/-! RaisedPress$Anywhere -/
set_option maxRecDepth 100000
def RX14 : String := "RaisedPress$Anywhere"
def TX14 : u_T := fun k => match k with
  | 0 => ("RaisedPress$Rule", "letters", "[B", true)
  | _ => ("RaisedPress$Rule", "cells", "[I", true)
def tyX14 : Nat → FieldType := fun k => match k with
  | 0 => .array .byte
  | _ => .array .int
abbrev wsX140 : List Cond := u_ws RX14 TX14 2
theorem nmX14 : ∀ a, a < 2 → ∀ b, b < 2 → a ≠ b → (TX14 a).2.1 ≠ (TX14 b).2.1 := by decide +kernel
theorem tyX14_ok : ∀ k, k < 2 → parseFieldDescriptor (TX14 k).2.2.1 = some (tyX14 k) := by decide +kernel
abbrev cX14_init : ByteArray := prog_3_method_1_code
def yX14_init : MethodName := ⟨RX14, "<init>", "([B[I)V"⟩
def dkwX14_init_0 : List UInt8 := [42, 43, 44, 183, 0, 1, 177]
abbrev dktX14_init_0 : List UInt8 := dkwX14_init_0 ++ []
theorem dksX14_init_0 : cX14_init.data.toList.drop 0 = dktX14_init_0 := by decide +kernel
theorem dX14_init_0 : decode cX14_init 0 = .ok (.aload_n 0, 1) := dk_42 (dk_at dksX14_init_0 0 rfl rfl)
theorem dX14_init_1 : decode cX14_init 1 = .ok (.aload_n 1, 1) := dk_43 (dk_at dksX14_init_0 1 rfl rfl)
theorem dX14_init_2 : decode cX14_init 2 = .ok (.aload_n 2, 1) := dk_44 (dk_at dksX14_init_0 2 rfl rfl)
theorem dX14_init_3 : decode cX14_init 3 = .ok (.invokespecial 1, 3) := dk_183 0 1 (dk_at dksX14_init_0 3 rfl rfl)
theorem dX14_init_6 : decode cX14_init 6 = .ok (.return_, 1) := dk_177 (dk_at dksX14_init_0 6 rfl rfl)
abbrev cX14_told : ByteArray := prog_3_method_3_code
def yX14_told : MethodName := ⟨RX14, "told", "()I"⟩
theorem dX14_told_0 : decode cX14_told 0 = .ok (.iconst 0, 1) := by decide +kernel
theorem dX14_told_1 : decode cX14_told 1 = .ok (.ireturn, 1) := by decide +kernel
abbrev cX14_may : ByteArray := prog_3_method_2_code
def yX14_may : MethodName := ⟨RX14, "may", "(ZZ)Z"⟩
theorem dX14_may_0 : decode cX14_may 0 = .ok (.iconst 1, 1) := by decide +kernel
theorem dX14_may_1 : decode cX14_may 1 = .ok (.ireturn, 1) := by decide +kernel
theorem q145 : (Jvm.Cond.initialized "RaisedPress$Anywhere") ∈ lw_all := lw_g (lw_at lw_m1 26 rfl) rfl
theorem q814 : (Jvm.Cond.instantiable "RaisedPress$Anywhere" (2 : Nat)) ∈ lw_all := lw_g (lw_at lw_m3 215 rfl) rfl
theorem q816 : (Jvm.Cond.instanceMethod ({ cls := "RaisedPress$Anywhere", name := "<init>", desc := "([B[I)V" } : Jvm.MethodName)) ∈ lw_all := lw_g (lw_at lw_m3 217 rfl) rfl
theorem q817 : (Jvm.Cond.code ({ cls := "RaisedPress$Anywhere", name := "<init>", desc := "([B[I)V" } : Jvm.MethodName) prog_3_method_1_code (3 : Nat) (Option.none : Option Jvm.ClassFile.FieldType)) ∈ lw_all := lw_g (lw_at lw_m3 218 rfl) rfl
theorem q818 : (Jvm.Cond.methodLink "RaisedPress$Anywhere" (1 : Nat) ({ cls := "RaisedPress$Rule", name := "<init>", desc := "([B[I)V" } : Jvm.MethodName)) ∈ lw_all := lw_g (lw_at lw_m3 219 rfl) rfl
theorem q819 : (Jvm.Cond.laysFinal "RaisedPress$Anywhere" "RaisedPress$Rule" "letters" "[B") ∈ lw_all := lw_g (lw_at lw_m3 220 rfl) rfl
theorem q820 : (Jvm.Cond.laysFinal "RaisedPress$Anywhere" "RaisedPress$Rule" "cells" "[I") ∈ lw_all := lw_g (lw_at lw_m3 221 rfl) rfl
theorem q821 : (Jvm.Cond.superclass "RaisedPress$Anywhere" "RaisedPress$Rule") ∈ lw_all := lw_g (lw_at lw_m3 222 rfl) rfl
theorem q828 : (Jvm.Cond.selects "RaisedPress$Anywhere" ({ cls := "RaisedPress$Rule", name := "told", desc := "()I" } : Jvm.MethodName) ({ cls := "RaisedPress$Anywhere", name := "told", desc := "()I" } : Jvm.MethodName)) ∈ lw_all := lw_g (lw_at lw_m3 229 rfl) rfl
theorem q829 : (Jvm.Cond.instanceMethod ({ cls := "RaisedPress$Anywhere", name := "told", desc := "()I" } : Jvm.MethodName)) ∈ lw_all := lw_g (lw_at lw_m3 230 rfl) rfl
theorem q830 : (Jvm.Cond.code ({ cls := "RaisedPress$Anywhere", name := "told", desc := "()I" } : Jvm.MethodName) prog_3_method_3_code (1 : Nat) (Option.some Jvm.ClassFile.FieldType.int)) ∈ lw_all := lw_g (lw_at lw_m3 231 rfl) rfl
theorem q844 : (Jvm.Cond.selects "RaisedPress$Anywhere" ({ cls := "RaisedPress$Rule", name := "isLike", desc := "(LRaisedPress$Rule;)Z" } : Jvm.MethodName) ({ cls := "RaisedPress$Rule", name := "isLike", desc := "(LRaisedPress$Rule;)Z" } : Jvm.MethodName)) ∈ lw_all := lw_g (lw_at lw_m4 5 rfl) rfl
theorem q929 : (Jvm.Cond.selects "RaisedPress$Anywhere" ({ cls := "RaisedPress$Rule", name := "may", desc := "(ZZ)Z" } : Jvm.MethodName) ({ cls := "RaisedPress$Anywhere", name := "may", desc := "(ZZ)Z" } : Jvm.MethodName)) ∈ lw_all := lw_g (lw_at lw_m4 90 rfl) rfl
theorem q930 : (Jvm.Cond.instanceMethod ({ cls := "RaisedPress$Anywhere", name := "may", desc := "(ZZ)Z" } : Jvm.MethodName)) ∈ lw_all := lw_g (lw_at lw_m4 91 rfl) rfl
theorem q931 : (Jvm.Cond.code ({ cls := "RaisedPress$Anywhere", name := "may", desc := "(ZZ)Z" } : Jvm.MethodName) prog_3_method_2_code (3 : Nat) (Option.some Jvm.ClassFile.FieldType.boolean)) ∈ lw_all := lw_g (lw_at lw_m4 92 rfl) rfl
theorem q967 : (Jvm.Cond.selects "RaisedPress$Anywhere" ({ cls := "RaisedPress$Rule", name := "isJust", desc := "(I)Z" } : Jvm.MethodName) ({ cls := "RaisedPress$Rule", name := "isJust", desc := "(I)Z" } : Jvm.MethodName)) ∈ lw_all := lw_g (lw_at lw_m4 128 rfl) rfl
theorem q1391 : (Jvm.Cond.selects "RaisedPress$Anywhere" ({ cls := "RaisedPress$Rule", name := "isAhead", desc := "(ILRaisedPress$Rule;I)Z" } : Jvm.MethodName) ({ cls := "RaisedPress$Rule", name := "isAhead", desc := "(ILRaisedPress$Rule;I)Z" } : Jvm.MethodName)) ∈ lw_all := lw_g (lw_at lw_m6 72 rfl) rfl
theorem q2204 : (Jvm.Cond.castable "RaisedPress$Anywhere" "RaisedPress$Rule") ∈ lw_tbl := lw_at lw_m9 165 rfl
theorem in_X14 : ∀ w ∈ wsX140, w ∈ lw_all := lw_in wsX140 [819, 820] (by decide +kernel) (by decide +kernel)
/-! RaisedPress$Writing -/
set_option maxRecDepth 100000
def RX15 : String := "RaisedPress$Writing"
def TX15 : u_T := fun k => match k with
  | 0 => ("RaisedPress$Writing", "bytes", "[B", true)
  | 1 => ("RaisedPress$Writing", "cells", "[I", false)
  | 2 => ("RaisedPress$Writing", "pieceAt", "[I", false)
  | 3 => ("RaisedPress$Writing", "pieceMany", "[I", false)
  | 4 => ("RaisedPress$Writing", "pieceLine", "[I", false)
  | 5 => ("RaisedPress$Writing", "pieceEnd", "[I", false)
  | 6 => ("RaisedPress$Writing", "cellBy", "[I", false)
  | 7 => ("RaisedPress$Writing", "laid", "[I", false)
  | 8 => ("RaisedPress$Writing", "lineAt", "[I", false)
  | 9 => ("RaisedPress$Writing", "used", "[I", true)
  | 10 => ("RaisedPress$Writing", "all", "I", false)
  | 11 => ("RaisedPress$Writing", "hyphens", "I", false)
  | _ => ("RaisedPress$Writing", "lettered", "I", false)
def tyX15 : Nat → FieldType := fun k => match k with
  | 0 => .array .byte
  | 1 => .array .int
  | 2 => .array .int
  | 3 => .array .int
  | 4 => .array .int
  | 5 => .array .int
  | 6 => .array .int
  | 7 => .array .int
  | 8 => .array .int
  | 9 => .array .int
  | 10 => .int
  | 11 => .int
  | _ => .int
abbrev wsX150 : List Cond := u_ws RX15 TX15 13
set_option maxRecDepth 100000 in
theorem nmX15 : ∀ a, a < 13 → ∀ b, b < 13 → a ≠ b → (TX15 a).2.1 ≠ (TX15 b).2.1 := by decide +kernel
set_option maxRecDepth 100000 in
theorem tyX15_ok : ∀ k, k < 13 → parseFieldDescriptor (TX15 k).2.2.1 = some (tyX15 k) := by decide +kernel
abbrev cX15_init : ByteArray := prog_15_method_1_code
def yX15_init : MethodName := ⟨RX15, "<init>", "([B)V"⟩
def dkwX15_init_3 : List UInt8 := [181, 0, 39, 177]
abbrev dktX15_init_3 : List UInt8 := dkwX15_init_3 ++ []
def dkwX15_init_2 : List UInt8 := [42, 3, 188, 10, 181, 0, 30, 42, 3, 188, 10, 181, 0, 33, 42, 16, 24, 188, 10, 181, 0, 36, 42, 43]
abbrev dktX15_init_2 : List UInt8 := dkwX15_init_2 ++ dktX15_init_3
def dkwX15_init_1 : List UInt8 := [181, 0, 18, 42, 3, 188, 10, 181, 0, 21, 42, 3, 188, 10, 181, 0, 24, 42, 3, 188, 10, 181, 0, 27]
abbrev dktX15_init_1 : List UInt8 := dkwX15_init_1 ++ dktX15_init_2
def dkwX15_init_0 : List UInt8 := [42, 183, 0, 3, 42, 3, 188, 10, 181, 0, 9, 42, 3, 188, 10, 181, 0, 15, 42, 3, 188, 10]
abbrev dktX15_init_0 : List UInt8 := dkwX15_init_0 ++ dktX15_init_1
theorem dksX15_init_0 : cX15_init.data.toList.drop 0 = dktX15_init_0 := by decide +kernel
theorem dksX15_init_1 : cX15_init.data.toList.drop 22 = dktX15_init_1 := dk_seg dksX15_init_0 22 rfl rfl
theorem dksX15_init_2 : cX15_init.data.toList.drop 46 = dktX15_init_2 := dk_seg dksX15_init_1 24 rfl rfl
theorem dksX15_init_3 : cX15_init.data.toList.drop 70 = dktX15_init_3 := dk_seg dksX15_init_2 24 rfl rfl
theorem dX15_init_0 : decode cX15_init 0 = .ok (.aload_n 0, 1) := dk_42 (dk_at dksX15_init_0 0 rfl rfl)
theorem dX15_init_1 : decode cX15_init 1 = .ok (.invokespecial 3, 3) := dk_183 0 3 (dk_at dksX15_init_0 1 rfl rfl)
theorem dX15_init_4 : decode cX15_init 4 = .ok (.aload_n 0, 1) := dk_42 (dk_at dksX15_init_0 4 rfl rfl)
theorem dX15_init_5 : decode cX15_init 5 = .ok (.iconst 0, 1) := dk_3 (dk_at dksX15_init_0 5 rfl rfl)
theorem dX15_init_6 : decode cX15_init 6 = .ok (.newarray .int, 2) := dk_188_10 (dk_at dksX15_init_0 6 rfl rfl)
theorem dX15_init_8 : decode cX15_init 8 = .ok (.putfield 9, 3) := dk_181 0 9 (dk_at dksX15_init_0 8 rfl rfl)
theorem dX15_init_11 : decode cX15_init 11 = .ok (.aload_n 0, 1) := dk_42 (dk_at dksX15_init_0 11 rfl rfl)
theorem dX15_init_12 : decode cX15_init 12 = .ok (.iconst 0, 1) := dk_3 (dk_at dksX15_init_0 12 rfl rfl)
theorem dX15_init_13 : decode cX15_init 13 = .ok (.newarray .int, 2) := dk_188_10 (dk_at dksX15_init_0 13 rfl rfl)
theorem dX15_init_15 : decode cX15_init 15 = .ok (.putfield 15, 3) := dk_181 0 15 (dk_at dksX15_init_0 15 rfl rfl)
theorem dX15_init_18 : decode cX15_init 18 = .ok (.aload_n 0, 1) := dk_42 (dk_at dksX15_init_0 18 rfl rfl)
theorem dX15_init_19 : decode cX15_init 19 = .ok (.iconst 0, 1) := dk_3 (dk_at dksX15_init_0 19 rfl rfl)
theorem dX15_init_20 : decode cX15_init 20 = .ok (.newarray .int, 2) := dk_188_10 (dk_at dksX15_init_0 20 rfl rfl)
theorem dX15_init_22 : decode cX15_init 22 = .ok (.putfield 18, 3) := dk_181 0 18 (dk_at dksX15_init_1 0 rfl rfl)
theorem dX15_init_25 : decode cX15_init 25 = .ok (.aload_n 0, 1) := dk_42 (dk_at dksX15_init_1 3 rfl rfl)
theorem dX15_init_26 : decode cX15_init 26 = .ok (.iconst 0, 1) := dk_3 (dk_at dksX15_init_1 4 rfl rfl)
theorem dX15_init_27 : decode cX15_init 27 = .ok (.newarray .int, 2) := dk_188_10 (dk_at dksX15_init_1 5 rfl rfl)
theorem dX15_init_29 : decode cX15_init 29 = .ok (.putfield 21, 3) := dk_181 0 21 (dk_at dksX15_init_1 7 rfl rfl)
theorem dX15_init_32 : decode cX15_init 32 = .ok (.aload_n 0, 1) := dk_42 (dk_at dksX15_init_1 10 rfl rfl)
theorem dX15_init_33 : decode cX15_init 33 = .ok (.iconst 0, 1) := dk_3 (dk_at dksX15_init_1 11 rfl rfl)
theorem dX15_init_34 : decode cX15_init 34 = .ok (.newarray .int, 2) := dk_188_10 (dk_at dksX15_init_1 12 rfl rfl)
theorem dX15_init_36 : decode cX15_init 36 = .ok (.putfield 24, 3) := dk_181 0 24 (dk_at dksX15_init_1 14 rfl rfl)
theorem dX15_init_39 : decode cX15_init 39 = .ok (.aload_n 0, 1) := dk_42 (dk_at dksX15_init_1 17 rfl rfl)
theorem dX15_init_40 : decode cX15_init 40 = .ok (.iconst 0, 1) := dk_3 (dk_at dksX15_init_1 18 rfl rfl)
theorem dX15_init_41 : decode cX15_init 41 = .ok (.newarray .int, 2) := dk_188_10 (dk_at dksX15_init_1 19 rfl rfl)
theorem dX15_init_43 : decode cX15_init 43 = .ok (.putfield 27, 3) := dk_181 0 27 (dk_at dksX15_init_1 21 rfl rfl)
theorem dX15_init_46 : decode cX15_init 46 = .ok (.aload_n 0, 1) := dk_42 (dk_at dksX15_init_2 0 rfl rfl)
theorem dX15_init_47 : decode cX15_init 47 = .ok (.iconst 0, 1) := dk_3 (dk_at dksX15_init_2 1 rfl rfl)
theorem dX15_init_48 : decode cX15_init 48 = .ok (.newarray .int, 2) := dk_188_10 (dk_at dksX15_init_2 2 rfl rfl)
theorem dX15_init_50 : decode cX15_init 50 = .ok (.putfield 30, 3) := dk_181 0 30 (dk_at dksX15_init_2 4 rfl rfl)
theorem dX15_init_53 : decode cX15_init 53 = .ok (.aload_n 0, 1) := dk_42 (dk_at dksX15_init_2 7 rfl rfl)
theorem dX15_init_54 : decode cX15_init 54 = .ok (.iconst 0, 1) := dk_3 (dk_at dksX15_init_2 8 rfl rfl)
theorem dX15_init_55 : decode cX15_init 55 = .ok (.newarray .int, 2) := dk_188_10 (dk_at dksX15_init_2 9 rfl rfl)
theorem dX15_init_57 : decode cX15_init 57 = .ok (.putfield 33, 3) := dk_181 0 33 (dk_at dksX15_init_2 11 rfl rfl)
theorem dX15_init_60 : decode cX15_init 60 = .ok (.aload_n 0, 1) := dk_42 (dk_at dksX15_init_2 14 rfl rfl)
theorem dX15_init_61 : decode cX15_init 61 = .ok (.bipush 24, 2) := dk_16 24 (dk_at dksX15_init_2 15 rfl rfl)
theorem dX15_init_63 : decode cX15_init 63 = .ok (.newarray .int, 2) := dk_188_10 (dk_at dksX15_init_2 17 rfl rfl)
theorem dX15_init_65 : decode cX15_init 65 = .ok (.putfield 36, 3) := dk_181 0 36 (dk_at dksX15_init_2 19 rfl rfl)
theorem dX15_init_68 : decode cX15_init 68 = .ok (.aload_n 0, 1) := dk_42 (dk_at dksX15_init_2 22 rfl rfl)
theorem dX15_init_69 : decode cX15_init 69 = .ok (.aload_n 1, 1) := dk_43 (dk_at dksX15_init_2 23 rfl rfl)
theorem dX15_init_70 : decode cX15_init 70 = .ok (.putfield 39, 3) := dk_181 0 39 (dk_at dksX15_init_3 0 rfl rfl)
theorem dX15_init_73 : decode cX15_init 73 = .ok (.return_, 1) := dk_177 (dk_at dksX15_init_3 3 rfl rfl)
abbrev cX15_lines : ByteArray := prog_15_method_2_code
def yX15_lines : MethodName := ⟨RX15, "lines", "()I"⟩
def dkwX15_lines_0 : List UInt8 := [42, 180, 0, 33, 190, 4, 100, 172]
abbrev dktX15_lines_0 : List UInt8 := dkwX15_lines_0 ++ []
theorem dksX15_lines_0 : cX15_lines.data.toList.drop 0 = dktX15_lines_0 := by decide +kernel
theorem dX15_lines_0 : decode cX15_lines 0 = .ok (.aload_n 0, 1) := dk_42 (dk_at dksX15_lines_0 0 rfl rfl)
theorem dX15_lines_1 : decode cX15_lines 1 = .ok (.getfield 33, 3) := dk_180 0 33 (dk_at dksX15_lines_0 1 rfl rfl)
theorem dX15_lines_4 : decode cX15_lines 4 = .ok (.arraylength, 1) := dk_190 (dk_at dksX15_lines_0 4 rfl rfl)
theorem dX15_lines_5 : decode cX15_lines 5 = .ok (.iconst 1, 1) := dk_4 (dk_at dksX15_lines_0 5 rfl rfl)
theorem dX15_lines_6 : decode cX15_lines 6 = .ok (.isub, 1) := dk_100 (dk_at dksX15_lines_0 6 rfl rfl)
theorem dX15_lines_7 : decode cX15_lines 7 = .ok (.ireturn, 1) := dk_172 (dk_at dksX15_lines_0 7 rfl rfl)
abbrev cX15_lineMany : ByteArray := prog_15_method_3_code
def yX15_lineMany : MethodName := ⟨RX15, "lineMany", "(I)I"⟩
def dkwX15_lineMany_0 : List UInt8 := [42, 180, 0, 33, 27, 4, 96, 46, 42, 180, 0, 33, 27, 46, 100, 172]
abbrev dktX15_lineMany_0 : List UInt8 := dkwX15_lineMany_0 ++ []
theorem dksX15_lineMany_0 : cX15_lineMany.data.toList.drop 0 = dktX15_lineMany_0 := by decide +kernel
theorem dX15_lineMany_0 : decode cX15_lineMany 0 = .ok (.aload_n 0, 1) := dk_42 (dk_at dksX15_lineMany_0 0 rfl rfl)
theorem dX15_lineMany_1 : decode cX15_lineMany 1 = .ok (.getfield 33, 3) := dk_180 0 33 (dk_at dksX15_lineMany_0 1 rfl rfl)
theorem dX15_lineMany_4 : decode cX15_lineMany 4 = .ok (.iload_n 1, 1) := dk_27 (dk_at dksX15_lineMany_0 4 rfl rfl)
theorem dX15_lineMany_5 : decode cX15_lineMany 5 = .ok (.iconst 1, 1) := dk_4 (dk_at dksX15_lineMany_0 5 rfl rfl)
theorem dX15_lineMany_6 : decode cX15_lineMany 6 = .ok (.iadd, 1) := dk_96 (dk_at dksX15_lineMany_0 6 rfl rfl)
theorem dX15_lineMany_7 : decode cX15_lineMany 7 = .ok (.iaload, 1) := dk_46 (dk_at dksX15_lineMany_0 7 rfl rfl)
theorem dX15_lineMany_8 : decode cX15_lineMany 8 = .ok (.aload_n 0, 1) := dk_42 (dk_at dksX15_lineMany_0 8 rfl rfl)
theorem dX15_lineMany_9 : decode cX15_lineMany 9 = .ok (.getfield 33, 3) := dk_180 0 33 (dk_at dksX15_lineMany_0 9 rfl rfl)
theorem dX15_lineMany_12 : decode cX15_lineMany 12 = .ok (.iload_n 1, 1) := dk_27 (dk_at dksX15_lineMany_0 12 rfl rfl)
theorem dX15_lineMany_13 : decode cX15_lineMany 13 = .ok (.iaload, 1) := dk_46 (dk_at dksX15_lineMany_0 13 rfl rfl)
theorem dX15_lineMany_14 : decode cX15_lineMany 14 = .ok (.isub, 1) := dk_100 (dk_at dksX15_lineMany_0 14 rfl rfl)
theorem dX15_lineMany_15 : decode cX15_lineMany 15 = .ok (.ireturn, 1) := dk_172 (dk_at dksX15_lineMany_0 15 rfl rfl)
theorem q147 : (Jvm.Cond.initialized "RaisedPress$Writing") ∈ lw_all := lw_g (lw_at lw_m1 28 rfl) rfl
theorem q994 : (Jvm.Cond.instantiable "RaisedPress$Writing" (13 : Nat)) ∈ lw_all := lw_g (lw_at lw_m4 155 rfl) rfl
theorem q996 : (Jvm.Cond.instanceMethod ({ cls := "RaisedPress$Writing", name := "<init>", desc := "([B)V" } : Jvm.MethodName)) ∈ lw_all := lw_g (lw_at lw_m4 157 rfl) rfl
theorem q997 : (Jvm.Cond.code ({ cls := "RaisedPress$Writing", name := "<init>", desc := "([B)V" } : Jvm.MethodName) prog_15_method_1_code (2 : Nat) (Option.none : Option Jvm.ClassFile.FieldType)) ∈ lw_all := lw_g (lw_at lw_m4 158 rfl) rfl
theorem q998 : (Jvm.Cond.methodLink "RaisedPress$Writing" (3 : Nat) ({ cls := "java/lang/Object", name := "<init>", desc := "()V" } : Jvm.MethodName)) ∈ lw_all := lw_g (lw_at lw_m4 159 rfl) rfl
theorem q999 : (Jvm.Cond.fieldLink "RaisedPress$Writing" (39 : Nat) "RaisedPress$Writing" "bytes" "[B") ∈ lw_all := lw_g (lw_at lw_m4 160 rfl) rfl
theorem q1001 : (Jvm.Cond.fieldLink "RaisedPress$Writing" (9 : Nat) "RaisedPress$Writing" "cells" "[I") ∈ lw_all := lw_g (lw_at lw_m4 162 rfl) rfl
theorem q1004 : (Jvm.Cond.fieldLink "RaisedPress$Writing" (15 : Nat) "RaisedPress$Writing" "pieceAt" "[I") ∈ lw_all := lw_g (lw_at lw_m4 165 rfl) rfl
theorem q1007 : (Jvm.Cond.fieldLink "RaisedPress$Writing" (18 : Nat) "RaisedPress$Writing" "pieceMany" "[I") ∈ lw_all := lw_g (lw_at lw_m4 168 rfl) rfl
theorem q1010 : (Jvm.Cond.fieldLink "RaisedPress$Writing" (21 : Nat) "RaisedPress$Writing" "pieceLine" "[I") ∈ lw_all := lw_g (lw_at lw_m4 171 rfl) rfl
theorem q1013 : (Jvm.Cond.fieldLink "RaisedPress$Writing" (24 : Nat) "RaisedPress$Writing" "pieceEnd" "[I") ∈ lw_all := lw_g (lw_at lw_m4 174 rfl) rfl
theorem q1016 : (Jvm.Cond.fieldLink "RaisedPress$Writing" (27 : Nat) "RaisedPress$Writing" "cellBy" "[I") ∈ lw_all := lw_g (lw_at lw_m4 177 rfl) rfl
theorem q1019 : (Jvm.Cond.fieldLink "RaisedPress$Writing" (30 : Nat) "RaisedPress$Writing" "laid" "[I") ∈ lw_all := lw_g (lw_at lw_m4 180 rfl) rfl
theorem q1022 : (Jvm.Cond.fieldLink "RaisedPress$Writing" (33 : Nat) "RaisedPress$Writing" "lineAt" "[I") ∈ lw_all := lw_g (lw_at lw_m4 183 rfl) rfl
theorem q1025 : (Jvm.Cond.fieldLink "RaisedPress$Writing" (36 : Nat) "RaisedPress$Writing" "used" "[I") ∈ lw_all := lw_g (lw_at lw_m4 186 rfl) rfl
theorem q1034 : (Jvm.Cond.laysFinal "RaisedPress$Writing" "RaisedPress$Writing" "bytes" "[B") ∈ lw_all := lw_g (lw_at lw_m4 195 rfl) rfl
theorem q1035 : (Jvm.Cond.soleField "RaisedPress$Writing" "bytes") ∈ lw_all := lw_g (lw_at lw_m4 196 rfl) rfl
theorem q1036 : (Jvm.Cond.lays "RaisedPress$Writing" "RaisedPress$Writing" "cells" "[I") ∈ lw_all := lw_g (lw_at lw_m4 197 rfl) rfl
theorem q1037 : (Jvm.Cond.soleField "RaisedPress$Writing" "cells") ∈ lw_all := lw_g (lw_at lw_m4 198 rfl) rfl
theorem q1038 : (Jvm.Cond.lays "RaisedPress$Writing" "RaisedPress$Writing" "pieceAt" "[I") ∈ lw_all := lw_g (lw_at lw_m4 199 rfl) rfl
theorem q1039 : (Jvm.Cond.soleField "RaisedPress$Writing" "pieceAt") ∈ lw_all := lw_g (lw_at lw_m4 200 rfl) rfl
theorem q1040 : (Jvm.Cond.lays "RaisedPress$Writing" "RaisedPress$Writing" "pieceMany" "[I") ∈ lw_all := lw_g (lw_at lw_m4 201 rfl) rfl
theorem q1041 : (Jvm.Cond.soleField "RaisedPress$Writing" "pieceMany") ∈ lw_all := lw_g (lw_at lw_m4 202 rfl) rfl
theorem q1042 : (Jvm.Cond.lays "RaisedPress$Writing" "RaisedPress$Writing" "pieceLine" "[I") ∈ lw_all := lw_g (lw_at lw_m4 203 rfl) rfl
theorem q1043 : (Jvm.Cond.soleField "RaisedPress$Writing" "pieceLine") ∈ lw_all := lw_g (lw_at lw_m4 204 rfl) rfl
theorem q1044 : (Jvm.Cond.lays "RaisedPress$Writing" "RaisedPress$Writing" "pieceEnd" "[I") ∈ lw_all := lw_g (lw_at lw_m4 205 rfl) rfl
theorem q1045 : (Jvm.Cond.soleField "RaisedPress$Writing" "pieceEnd") ∈ lw_all := lw_g (lw_at lw_m4 206 rfl) rfl
theorem q1046 : (Jvm.Cond.lays "RaisedPress$Writing" "RaisedPress$Writing" "cellBy" "[I") ∈ lw_all := lw_g (lw_at lw_m4 207 rfl) rfl
theorem q1047 : (Jvm.Cond.soleField "RaisedPress$Writing" "cellBy") ∈ lw_all := lw_g (lw_at lw_m4 208 rfl) rfl
theorem q1048 : (Jvm.Cond.lays "RaisedPress$Writing" "RaisedPress$Writing" "laid" "[I") ∈ lw_all := lw_g (lw_at lw_m4 209 rfl) rfl
theorem q1049 : (Jvm.Cond.soleField "RaisedPress$Writing" "laid") ∈ lw_all := lw_g (lw_at lw_m4 210 rfl) rfl
theorem q1050 : (Jvm.Cond.lays "RaisedPress$Writing" "RaisedPress$Writing" "lineAt" "[I") ∈ lw_all := lw_g (lw_at lw_m4 211 rfl) rfl
theorem q1051 : (Jvm.Cond.soleField "RaisedPress$Writing" "lineAt") ∈ lw_all := lw_g (lw_at lw_m4 212 rfl) rfl
theorem q1052 : (Jvm.Cond.laysFinal "RaisedPress$Writing" "RaisedPress$Writing" "used" "[I") ∈ lw_all := lw_g (lw_at lw_m4 213 rfl) rfl
theorem q1053 : (Jvm.Cond.soleField "RaisedPress$Writing" "used") ∈ lw_all := lw_g (lw_at lw_m4 214 rfl) rfl
theorem q1054 : (Jvm.Cond.lays "RaisedPress$Writing" "RaisedPress$Writing" "all" "I") ∈ lw_all := lw_g (lw_at lw_m4 215 rfl) rfl
theorem q1055 : (Jvm.Cond.soleField "RaisedPress$Writing" "all") ∈ lw_all := lw_g (lw_at lw_m4 216 rfl) rfl
theorem q1056 : (Jvm.Cond.lays "RaisedPress$Writing" "RaisedPress$Writing" "hyphens" "I") ∈ lw_all := lw_g (lw_at lw_m4 217 rfl) rfl
theorem q1057 : (Jvm.Cond.soleField "RaisedPress$Writing" "hyphens") ∈ lw_all := lw_g (lw_at lw_m4 218 rfl) rfl
theorem q1058 : (Jvm.Cond.lays "RaisedPress$Writing" "RaisedPress$Writing" "lettered" "I") ∈ lw_all := lw_g (lw_at lw_m4 219 rfl) rfl
theorem q1059 : (Jvm.Cond.soleField "RaisedPress$Writing" "lettered") ∈ lw_all := lw_g (lw_at lw_m4 220 rfl) rfl
theorem q1060 : (Jvm.Cond.superclass "RaisedPress$Writing" "java/lang/Object") ∈ lw_all := lw_g (lw_at lw_m4 221 rfl) rfl
theorem q1129 : (Jvm.Cond.instanceMethod ({ cls := "RaisedPress$Writing", name := "lines", desc := "()I" } : Jvm.MethodName)) ∈ lw_all := lw_g (lw_at lw_m5 50 rfl) rfl
theorem q1130 : (Jvm.Cond.selects "RaisedPress$Writing" ({ cls := "RaisedPress$Writing", name := "lines", desc := "()I" } : Jvm.MethodName) ({ cls := "RaisedPress$Writing", name := "lines", desc := "()I" } : Jvm.MethodName)) ∈ lw_all := lw_g (lw_at lw_m5 51 rfl) rfl
theorem q1131 : (Jvm.Cond.code ({ cls := "RaisedPress$Writing", name := "lines", desc := "()I" } : Jvm.MethodName) prog_15_method_2_code (1 : Nat) (Option.some Jvm.ClassFile.FieldType.int)) ∈ lw_all := lw_g (lw_at lw_m5 52 rfl) rfl
theorem q1149 : (Jvm.Cond.instanceMethod ({ cls := "RaisedPress$Writing", name := "lineMany", desc := "(I)I" } : Jvm.MethodName)) ∈ lw_all := lw_g (lw_at lw_m5 70 rfl) rfl
theorem q1150 : (Jvm.Cond.selects "RaisedPress$Writing" ({ cls := "RaisedPress$Writing", name := "lineMany", desc := "(I)I" } : Jvm.MethodName) ({ cls := "RaisedPress$Writing", name := "lineMany", desc := "(I)I" } : Jvm.MethodName)) ∈ lw_all := lw_g (lw_at lw_m5 71 rfl) rfl
theorem q1151 : (Jvm.Cond.code ({ cls := "RaisedPress$Writing", name := "lineMany", desc := "(I)I" } : Jvm.MethodName) prog_15_method_3_code (2 : Nat) (Option.some Jvm.ClassFile.FieldType.int)) ∈ lw_all := lw_g (lw_at lw_m5 72 rfl) rfl
theorem in_X15 : ∀ w ∈ wsX150, w ∈ lw_all := lw_in wsX150 [1034, 1036, 1038, 1040, 1042, 1044, 1046, 1048, 1050, 1052, 1054, 1056, 1058] (by decide +kernel) (by decide +kernel)
