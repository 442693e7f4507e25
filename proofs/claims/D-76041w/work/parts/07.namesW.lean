theorem q82 : (Jvm.Cond.initialized "RumourBedsLaw") ∈ lw_all := lw_g (lw_at lw_m1 0 rfl) rfl
set_option maxRecDepth 100000
theorem q105 : (Jvm.Cond.classLink "RumourBedsLaw" (7 : Nat) "RumourBeds") ∈ lw_all := lw_g (lw_at lw_m1 23 rfl) rfl
theorem q107 : (Jvm.Cond.methodLink "RumourBedsLaw" (9 : Nat) ({ cls := "RumourBeds", name := "<init>", desc := "()V" } : Jvm.MethodName)) ∈ lw_all := lw_g (lw_at lw_m1 25 rfl) rfl
theorem q200 : (Jvm.Cond.methodLink "RumourBedsLaw" (13 : Nat) ({ cls := "RumourBeds", name := "house", desc := "(III)I" } : Jvm.MethodName)) ∈ lw_all := lw_g (lw_at lw_m1 118 rfl) rfl
theorem q298 : (Jvm.Cond.methodLink "RumourBedsLaw" (18 : Nat) ({ cls := "RumourBeds", name := "houseOf", desc := "(II)I" } : Jvm.MethodName)) ∈ lw_all := lw_g (lw_at lw_m1 216 rfl) rfl
theorem q352 : (Jvm.Cond.methodLink "RumourBedsLaw" (23 : Nat) ({ cls := "RumourBeds", name := "rumour", desc := "(II)I" } : Jvm.MethodName)) ∈ lw_all := lw_g (lw_at lw_m2 30 rfl) rfl
theorem q424 : (Jvm.Cond.methodLink "RumourBedsLaw" (27 : Nat) ({ cls := "RumourBeds", name := "of", desc := "(II)I" } : Jvm.MethodName)) ∈ lw_all := lw_g (lw_at lw_m2 102 rfl) rfl
theorem q498 : (Jvm.Cond.methodLink "RumourBedsLaw" (31 : Nat) ({ cls := "RumourBeds", name := "set", desc := "(III)I" } : Jvm.MethodName)) ∈ lw_all := lw_g (lw_at lw_m2 176 rfl) rfl
theorem q503 : (Jvm.Cond.methodLink "RumourBedsLaw" (35 : Nat) ({ cls := "RumourBeds", name := "turn", desc := "(II)I" } : Jvm.MethodName)) ∈ lw_all := lw_g (lw_at lw_m2 181 rfl) rfl
theorem q524 : (Jvm.Cond.methodLink "RumourBedsLaw" (39 : Nat) ({ cls := "RumourBeds", name := "as", desc := "(II)I" } : Jvm.MethodName)) ∈ lw_all := lw_g (lw_at lw_m2 202 rfl) rfl
theorem q545 : (Jvm.Cond.methodLink "RumourBedsLaw" (43 : Nat) ({ cls := "RumourBeds", name := "takes", desc := "(II)I" } : Jvm.MethodName)) ∈ lw_all := lw_g (lw_at lw_m2 223 rfl) rfl
theorem q564 : (Jvm.Cond.methodLink "RumourBedsLaw" (47 : Nat) ({ cls := "RumourBeds", name := "comeIn", desc := "(I)I" } : Jvm.MethodName)) ∈ lw_all := lw_g (lw_at lw_m3 2 rfl) rfl
theorem q595 : (Jvm.Cond.methodLink "RumourBedsLaw" (52 : Nat) ({ cls := "RumourBeds", name := "improve", desc := "(II)I" } : Jvm.MethodName)) ∈ lw_all := lw_g (lw_at lw_m3 33 rfl) rfl
theorem q621 : (Jvm.Cond.methodLink "RumourBedsLaw" (56 : Nat) ({ cls := "RumourBeds", name := "comesTrue", desc := "(I)I" } : Jvm.MethodName)) ∈ lw_all := lw_g (lw_at lw_m3 59 rfl) rfl
theorem q630 : (Jvm.Cond.methodLink "RumourBedsLaw" (60 : Nat) ({ cls := "RumourBeds", name := "forget", desc := "(I)I" } : Jvm.MethodName)) ∈ lw_all := lw_g (lw_at lw_m3 68 rfl) rfl
theorem q634 : (Jvm.Cond.methodLink "RumourBedsLaw" (64 : Nat) ({ cls := "RumourBeds", name := "days", desc := "(I)I" } : Jvm.MethodName)) ∈ lw_all := lw_g (lw_at lw_m3 72 rfl) rfl
theorem q672 : (Jvm.Cond.methodLink "RumourBedsLaw" (68 : Nat) ({ cls := "RumourBeds", name := "now", desc := "(I)I" } : Jvm.MethodName)) ∈ lw_all := lw_g (lw_at lw_m3 110 rfl) rfl
theorem q695 : (Jvm.Cond.methodLink "RumourBedsLaw" (72 : Nat) ({ cls := "RumourBeds", name := "on", desc := "(III)I" } : Jvm.MethodName)) ∈ lw_all := lw_g (lw_at lw_m3 133 rfl) rfl
theorem q712 : (Jvm.Cond.methodLink "RumourBedsLaw" (76 : Nat) ({ cls := "RumourBeds", name := "larder", desc := "(II)I" } : Jvm.MethodName)) ∈ lw_all := lw_g (lw_at lw_m3 150 rfl) rfl
theorem q716 : (Jvm.Cond.methodLink "RumourBedsLaw" (80 : Nat) ({ cls := "RumourBeds", name := "empty", desc := "(I)I" } : Jvm.MethodName)) ∈ lw_all := lw_g (lw_at lw_m3 154 rfl) rfl
theorem q721 : (Jvm.Cond.methodLink "RumourBedsLaw" (84 : Nat) ({ cls := "RumourBeds", name := "many", desc := "(I)I" } : Jvm.MethodName)) ∈ lw_all := lw_g (lw_at lw_m3 159 rfl) rfl
theorem q725 : (Jvm.Cond.methodLink "RumourBedsLaw" (88 : Nat) ({ cls := "RumourBeds", name := "out", desc := "(I)I" } : Jvm.MethodName)) ∈ lw_all := lw_g (lw_at lw_m3 163 rfl) rfl
theorem q729 : (Jvm.Cond.methodLink "RumourBedsLaw" (92 : Nat) ({ cls := "RumourBeds", name := "fewest", desc := "(II)I" } : Jvm.MethodName)) ∈ lw_all := lw_g (lw_at lw_m3 167 rfl) rfl
theorem q733 : (Jvm.Cond.methodLink "RumourBedsLaw" (96 : Nat) ({ cls := "RumourBeds", name := "least", desc := "(I)I" } : Jvm.MethodName)) ∈ lw_all := lw_g (lw_at lw_m3 171 rfl) rfl
theorem q737 : (Jvm.Cond.methodLink "RumourBedsLaw" (100 : Nat) ({ cls := "RumourBeds", name := "best", desc := "(I)I" } : Jvm.MethodName)) ∈ lw_all := lw_g (lw_at lw_m3 175 rfl) rfl
theorem q744 : (Jvm.Cond.methodLink "RumourBedsLaw" (104 : Nat) ({ cls := "RumourBeds", name := "lean", desc := "(II)I" } : Jvm.MethodName)) ∈ lw_all := lw_g (lw_at lw_m3 182 rfl) rfl
theorem q749 : (Jvm.Cond.methodLink "RumourBedsLaw" (108 : Nat) ({ cls := "RumourBeds", name := "leanFor", desc := "(II)I" } : Jvm.MethodName)) ∈ lw_all := lw_g (lw_at lw_m3 187 rfl) rfl
theorem q753 : (Jvm.Cond.methodLink "RumourBedsLaw" (112 : Nat) ({ cls := "RumourBeds", name := "kind", desc := "(I)I" } : Jvm.MethodName)) ∈ lw_all := lw_g (lw_at lw_m3 191 rfl) rfl
theorem q757 : (Jvm.Cond.methodLink "RumourBedsLaw" (116 : Nat) ({ cls := "RumourBeds", name := "host", desc := "(I)I" } : Jvm.MethodName)) ∈ lw_all := lw_g (lw_at lw_m3 195 rfl) rfl
theorem q765 : (Jvm.Cond.methodLink "RumourBedsLaw" (120 : Nat) ({ cls := "RumourBeds", name := "beds", desc := "(II)I" } : Jvm.MethodName)) ∈ lw_all := lw_g (lw_at lw_m3 203 rfl) rfl
theorem q769 : (Jvm.Cond.methodLink "RumourBedsLaw" (124 : Nat) ({ cls := "RumourBeds", name := "feed", desc := "(II)I" } : Jvm.MethodName)) ∈ lw_all := lw_g (lw_at lw_m3 207 rfl) rfl
theorem q774 : (Jvm.Cond.methodLink "RumourBedsLaw" (128 : Nat) ({ cls := "RumourBeds", name := "wipe", desc := "()I" } : Jvm.MethodName)) ∈ lw_all := lw_g (lw_at lw_m3 212 rfl) rfl
theorem q778 : (Jvm.Cond.methodLink "RumourBedsLaw" (133 : Nat) ({ cls := "RumourBeds", name := "town", desc := "()I" } : Jvm.MethodName)) ∈ lw_all := lw_g (lw_at lw_m3 216 rfl) rfl
theorem q954 : (Jvm.Cond.methodLink "RumourBedsLaw" (153 : Nat) ({ cls := "RumourBeds", name := "lays", desc := "(I)I" } : Jvm.MethodName)) ∈ lw_all := lw_g (lw_at lw_m4 152 rfl) rfl
theorem q974 : (Jvm.Cond.methodLink "RumourBedsLaw" (157 : Nat) ({ cls := "RumourBeds", name := "book", desc := "(II)I" } : Jvm.MethodName)) ∈ lw_all := lw_g (lw_at lw_m4 172 rfl) rfl
theorem q981 : (Jvm.Cond.methodLink "RumourBedsLaw" (161 : Nat) ({ cls := "RumourBeds", name := "read", desc := "(II)I" } : Jvm.MethodName)) ∈ lw_all := lw_g (lw_at lw_m4 179 rfl) rfl
theorem q989 : (Jvm.Cond.methodLink "RumourBedsLaw" (137 : Nat) ({ cls := "RumourBeds", name := "sheet", desc := "(III)I" } : Jvm.MethodName)) ∈ lw_all := lw_g (lw_at lw_m4 187 rfl) rfl
theorem q998 : (Jvm.Cond.methodLink "RumourBedsLaw" (143 : Nat) ({ cls := "RumourBeds", name := "write", desc := "(IIJ)J" } : Jvm.MethodName)) ∈ lw_all := lw_g (lw_at lw_m4 196 rfl) rfl
theorem q1006 : (Jvm.Cond.methodLink "RumourBedsLaw" (148 : Nat) ({ cls := "RumourBeds", name := "copy", desc := "(IIIII)I" } : Jvm.MethodName)) ∈ lw_all := lw_g (lw_at lw_m4 204 rfl) rfl
theorem q1014 : (Jvm.Cond.methodLink "RumourBedsLaw" (165 : Nat) ({ cls := "RumourBeds", name := "image", desc := "()I" } : Jvm.MethodName)) ∈ lw_all := lw_g (lw_at lw_m4 212 rfl) rfl
theorem q1018 : (Jvm.Cond.methodLink "RumourBedsLaw" (169 : Nat) ({ cls := "RumourBeds", name := "undo", desc := "()I" } : Jvm.MethodName)) ∈ lw_all := lw_g (lw_at lw_m4 216 rfl) rfl
theorem q1022 : (Jvm.Cond.methodLink "RumourBedsLaw" (173 : Nat) ({ cls := "RumourBeds", name := "tear", desc := "()I" } : Jvm.MethodName)) ∈ lw_all := lw_g (lw_at lw_m4 220 rfl) rfl
theorem q1026 : (Jvm.Cond.methodLink "RumourBedsLaw" (177 : Nat) ({ cls := "RumourBeds", name := "count", desc := "(I)I" } : Jvm.MethodName)) ∈ lw_all := lw_g (lw_at lw_m4 224 rfl) rfl
theorem q1034 : (Jvm.Cond.methodLink "RumourBedsLaw" (181 : Nat) ({ cls := "RumourBeds", name := "status", desc := "(I)I" } : Jvm.MethodName)) ∈ lw_all := lw_g (lw_at lw_m4 232 rfl) rfl
theorem q1039 : (Jvm.Cond.classLink "RumourBedsLaw" (10 : Nat) "RumourBedsModel") ∈ lw_all := lw_g (lw_at lw_m4 237 rfl) rfl
theorem q1041 : (Jvm.Cond.methodLink "RumourBedsLaw" (12 : Nat) ({ cls := "RumourBedsModel", name := "<init>", desc := "()V" } : Jvm.MethodName)) ∈ lw_all := lw_g (lw_at lw_m4 239 rfl) rfl
theorem q1097 : (Jvm.Cond.methodLink "RumourBedsLaw" (17 : Nat) ({ cls := "RumourBedsModel", name := "house", desc := "(III)I" } : Jvm.MethodName)) ∈ lw_all := lw_g (lw_at lw_m5 55 rfl) rfl
theorem q1121 : (Jvm.Cond.methodLink "RumourBedsLaw" (22 : Nat) ({ cls := "RumourBedsModel", name := "houseOf", desc := "(II)I" } : Jvm.MethodName)) ∈ lw_all := lw_g (lw_at lw_m5 79 rfl) rfl
theorem q1153 : (Jvm.Cond.methodLink "RumourBedsLaw" (26 : Nat) ({ cls := "RumourBedsModel", name := "rumour", desc := "(II)I" } : Jvm.MethodName)) ∈ lw_all := lw_g (lw_at lw_m5 111 rfl) rfl
theorem q1169 : (Jvm.Cond.methodLink "RumourBedsLaw" (30 : Nat) ({ cls := "RumourBedsModel", name := "of", desc := "(II)I" } : Jvm.MethodName)) ∈ lw_all := lw_g (lw_at lw_m5 127 rfl) rfl
theorem q1185 : (Jvm.Cond.methodLink "RumourBedsLaw" (34 : Nat) ({ cls := "RumourBedsModel", name := "set", desc := "(III)I" } : Jvm.MethodName)) ∈ lw_all := lw_g (lw_at lw_m5 143 rfl) rfl
theorem q1190 : (Jvm.Cond.methodLink "RumourBedsLaw" (38 : Nat) ({ cls := "RumourBedsModel", name := "turn", desc := "(II)I" } : Jvm.MethodName)) ∈ lw_all := lw_g (lw_at lw_m5 148 rfl) rfl
theorem q1194 : (Jvm.Cond.methodLink "RumourBedsLaw" (42 : Nat) ({ cls := "RumourBedsModel", name := "as", desc := "(II)I" } : Jvm.MethodName)) ∈ lw_all := lw_g (lw_at lw_m5 152 rfl) rfl
theorem q1202 : (Jvm.Cond.methodLink "RumourBedsLaw" (46 : Nat) ({ cls := "RumourBedsModel", name := "takes", desc := "(II)I" } : Jvm.MethodName)) ∈ lw_all := lw_g (lw_at lw_m5 160 rfl) rfl
theorem q1217 : (Jvm.Cond.methodLink "RumourBedsLaw" (51 : Nat) ({ cls := "RumourBedsModel", name := "comeIn", desc := "(I)I" } : Jvm.MethodName)) ∈ lw_all := lw_g (lw_at lw_m5 175 rfl) rfl
theorem q1230 : (Jvm.Cond.methodLink "RumourBedsLaw" (55 : Nat) ({ cls := "RumourBedsModel", name := "improve", desc := "(II)I" } : Jvm.MethodName)) ∈ lw_all := lw_g (lw_at lw_m5 188 rfl) rfl
theorem q1242 : (Jvm.Cond.methodLink "RumourBedsLaw" (59 : Nat) ({ cls := "RumourBedsModel", name := "comesTrue", desc := "(I)I" } : Jvm.MethodName)) ∈ lw_all := lw_g (lw_at lw_m5 200 rfl) rfl
theorem q1250 : (Jvm.Cond.methodLink "RumourBedsLaw" (63 : Nat) ({ cls := "RumourBedsModel", name := "forget", desc := "(I)I" } : Jvm.MethodName)) ∈ lw_all := lw_g (lw_at lw_m5 208 rfl) rfl
theorem q1254 : (Jvm.Cond.methodLink "RumourBedsLaw" (67 : Nat) ({ cls := "RumourBedsModel", name := "days", desc := "(I)I" } : Jvm.MethodName)) ∈ lw_all := lw_g (lw_at lw_m5 212 rfl) rfl
theorem q1283 : (Jvm.Cond.methodLink "RumourBedsLaw" (71 : Nat) ({ cls := "RumourBedsModel", name := "now", desc := "(I)I" } : Jvm.MethodName)) ∈ lw_all := lw_g (lw_at lw_m6 1 rfl) rfl
theorem q1303 : (Jvm.Cond.methodLink "RumourBedsLaw" (75 : Nat) ({ cls := "RumourBedsModel", name := "on", desc := "(III)I" } : Jvm.MethodName)) ∈ lw_all := lw_g (lw_at lw_m6 21 rfl) rfl
theorem q1322 : (Jvm.Cond.methodLink "RumourBedsLaw" (79 : Nat) ({ cls := "RumourBedsModel", name := "larder", desc := "(II)I" } : Jvm.MethodName)) ∈ lw_all := lw_g (lw_at lw_m6 40 rfl) rfl
theorem q1326 : (Jvm.Cond.methodLink "RumourBedsLaw" (83 : Nat) ({ cls := "RumourBedsModel", name := "empty", desc := "(I)I" } : Jvm.MethodName)) ∈ lw_all := lw_g (lw_at lw_m6 44 rfl) rfl
theorem q1335 : (Jvm.Cond.methodLink "RumourBedsLaw" (87 : Nat) ({ cls := "RumourBedsModel", name := "many", desc := "(I)I" } : Jvm.MethodName)) ∈ lw_all := lw_g (lw_at lw_m6 53 rfl) rfl
theorem q1339 : (Jvm.Cond.methodLink "RumourBedsLaw" (91 : Nat) ({ cls := "RumourBedsModel", name := "out", desc := "(I)I" } : Jvm.MethodName)) ∈ lw_all := lw_g (lw_at lw_m6 57 rfl) rfl
theorem q1343 : (Jvm.Cond.methodLink "RumourBedsLaw" (95 : Nat) ({ cls := "RumourBedsModel", name := "fewest", desc := "(II)I" } : Jvm.MethodName)) ∈ lw_all := lw_g (lw_at lw_m6 61 rfl) rfl
theorem q1351 : (Jvm.Cond.methodLink "RumourBedsLaw" (99 : Nat) ({ cls := "RumourBedsModel", name := "least", desc := "(I)I" } : Jvm.MethodName)) ∈ lw_all := lw_g (lw_at lw_m6 69 rfl) rfl
theorem q1355 : (Jvm.Cond.methodLink "RumourBedsLaw" (103 : Nat) ({ cls := "RumourBedsModel", name := "best", desc := "(I)I" } : Jvm.MethodName)) ∈ lw_all := lw_g (lw_at lw_m6 73 rfl) rfl
theorem q1362 : (Jvm.Cond.methodLink "RumourBedsLaw" (107 : Nat) ({ cls := "RumourBedsModel", name := "lean", desc := "(II)I" } : Jvm.MethodName)) ∈ lw_all := lw_g (lw_at lw_m6 80 rfl) rfl
theorem q1366 : (Jvm.Cond.methodLink "RumourBedsLaw" (111 : Nat) ({ cls := "RumourBedsModel", name := "leanFor", desc := "(II)I" } : Jvm.MethodName)) ∈ lw_all := lw_g (lw_at lw_m6 84 rfl) rfl
theorem q1370 : (Jvm.Cond.methodLink "RumourBedsLaw" (115 : Nat) ({ cls := "RumourBedsModel", name := "kind", desc := "(I)I" } : Jvm.MethodName)) ∈ lw_all := lw_g (lw_at lw_m6 88 rfl) rfl
theorem q1374 : (Jvm.Cond.methodLink "RumourBedsLaw" (119 : Nat) ({ cls := "RumourBedsModel", name := "host", desc := "(I)I" } : Jvm.MethodName)) ∈ lw_all := lw_g (lw_at lw_m6 92 rfl) rfl
theorem q1378 : (Jvm.Cond.methodLink "RumourBedsLaw" (123 : Nat) ({ cls := "RumourBedsModel", name := "beds", desc := "(II)I" } : Jvm.MethodName)) ∈ lw_all := lw_g (lw_at lw_m6 96 rfl) rfl
theorem q1382 : (Jvm.Cond.methodLink "RumourBedsLaw" (127 : Nat) ({ cls := "RumourBedsModel", name := "feed", desc := "(II)I" } : Jvm.MethodName)) ∈ lw_all := lw_g (lw_at lw_m6 100 rfl) rfl
theorem q1387 : (Jvm.Cond.methodLink "RumourBedsLaw" (132 : Nat) ({ cls := "RumourBedsModel", name := "wipe", desc := "()I" } : Jvm.MethodName)) ∈ lw_all := lw_g (lw_at lw_m6 105 rfl) rfl
theorem q1391 : (Jvm.Cond.methodLink "RumourBedsLaw" (136 : Nat) ({ cls := "RumourBedsModel", name := "town", desc := "()I" } : Jvm.MethodName)) ∈ lw_all := lw_g (lw_at lw_m6 109 rfl) rfl
theorem q1473 : (Jvm.Cond.methodLink "RumourBedsLaw" (140 : Nat) ({ cls := "RumourBedsModel", name := "sheet", desc := "(III)I" } : Jvm.MethodName)) ∈ lw_all := lw_g (lw_at lw_m6 191 rfl) rfl
theorem q1481 : (Jvm.Cond.methodLink "RumourBedsLaw" (147 : Nat) ({ cls := "RumourBedsModel", name := "write", desc := "(IIJ)J" } : Jvm.MethodName)) ∈ lw_all := lw_g (lw_at lw_m6 199 rfl) rfl
theorem q1493 : (Jvm.Cond.methodLink "RumourBedsLaw" (152 : Nat) ({ cls := "RumourBedsModel", name := "copy", desc := "(IIIII)I" } : Jvm.MethodName)) ∈ lw_all := lw_g (lw_at lw_m6 211 rfl) rfl
theorem q1497 : (Jvm.Cond.methodLink "RumourBedsLaw" (156 : Nat) ({ cls := "RumourBedsModel", name := "lays", desc := "(I)I" } : Jvm.MethodName)) ∈ lw_all := lw_g (lw_at lw_m6 215 rfl) rfl
theorem q1501 : (Jvm.Cond.methodLink "RumourBedsLaw" (160 : Nat) ({ cls := "RumourBedsModel", name := "book", desc := "(II)I" } : Jvm.MethodName)) ∈ lw_all := lw_g (lw_at lw_m6 219 rfl) rfl
theorem q1509 : (Jvm.Cond.methodLink "RumourBedsLaw" (164 : Nat) ({ cls := "RumourBedsModel", name := "read", desc := "(II)I" } : Jvm.MethodName)) ∈ lw_all := lw_g (lw_at lw_m6 227 rfl) rfl
theorem q1517 : (Jvm.Cond.methodLink "RumourBedsLaw" (168 : Nat) ({ cls := "RumourBedsModel", name := "image", desc := "()I" } : Jvm.MethodName)) ∈ lw_all := lw_g (lw_at lw_m6 235 rfl) rfl
theorem q1521 : (Jvm.Cond.methodLink "RumourBedsLaw" (172 : Nat) ({ cls := "RumourBedsModel", name := "undo", desc := "()I" } : Jvm.MethodName)) ∈ lw_all := lw_g (lw_at lw_m6 239 rfl) rfl
theorem q1525 : (Jvm.Cond.methodLink "RumourBedsLaw" (176 : Nat) ({ cls := "RumourBedsModel", name := "tear", desc := "()I" } : Jvm.MethodName)) ∈ lw_all := lw_g (lw_at lw_m7 3 rfl) rfl
theorem q1529 : (Jvm.Cond.methodLink "RumourBedsLaw" (180 : Nat) ({ cls := "RumourBedsModel", name := "count", desc := "(I)I" } : Jvm.MethodName)) ∈ lw_all := lw_g (lw_at lw_m7 7 rfl) rfl
theorem q1537 : (Jvm.Cond.methodLink "RumourBedsLaw" (184 : Nat) ({ cls := "RumourBedsModel", name := "status", desc := "(I)I" } : Jvm.MethodName)) ∈ lw_all := lw_g (lw_at lw_m7 15 rfl) rfl
theorem q1543 : (Jvm.Cond.constantLong "RumourBedsLaw" (141 : Nat) (4294967295 : Int64)) ∈ lw_all := lw_g (lw_at lw_m7 21 rfl) rfl

theorem q97 : (Jvm.Cond.initialized "java/lang/System") ∈ lw_all := lw_g (lw_at lw_m1 15 rfl) rfl
set_option maxRecDepth 100000
theorem q522 : (Jvm.Cond.static ({ cls := "java/lang/System", name := "arraycopy", desc := "(Ljava/lang/Object;ILjava/lang/Object;II)V" } : Jvm.MethodName)) ∈ lw_all := lw_g (lw_at lw_m2 200 rfl) rfl
theorem q523 : (Jvm.Cond.native ({ cls := "java/lang/System", name := "arraycopy", desc := "(Ljava/lang/Object;ILjava/lang/Object;II)V" } : Jvm.MethodName)) ∈ lw_all := lw_g (lw_at lw_m2 201 rfl) rfl

theorem q123 : (Jvm.Cond.arrayOver (Jvm.ClassFile.FieldType.object "RumourBeds$Slot")) ∈ lw_tbl := lw_at lw_m1 41 rfl
set_option maxRecDepth 100000
theorem q134 : (Jvm.Cond.arrayClass Jvm.ClassFile.FieldType.int) ∈ lw_all := lw_g (lw_at lw_m1 52 rfl) rfl
theorem q199 : (Jvm.Cond.arrayClass Jvm.ClassFile.FieldType.byte) ∈ lw_all := lw_g (lw_at lw_m1 117 rfl) rfl
theorem q996 : (Jvm.Cond.arrayClass Jvm.ClassFile.FieldType.short) ∈ lw_all := lw_g (lw_at lw_m4 194 rfl) rfl
theorem q997 : (Jvm.Cond.arrayClass Jvm.ClassFile.FieldType.long) ∈ lw_all := lw_g (lw_at lw_m4 195 rfl) rfl
