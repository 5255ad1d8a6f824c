theorem q100 : (Jvm.Cond.initialized "ThunderCasksLaw") ∈ lw_all := lw_g (lw_at lw_m1 0 rfl) rfl
set_option maxRecDepth 100000
theorem q125 : (Jvm.Cond.classLink "ThunderCasksLaw" (7 : Nat) "ThunderCasks") ∈ lw_all := lw_g (lw_at lw_m1 25 rfl) rfl
theorem q127 : (Jvm.Cond.methodLink "ThunderCasksLaw" (9 : Nat) ({ cls := "ThunderCasks", name := "<init>", desc := "()V" } : Jvm.MethodName)) ∈ lw_all := lw_g (lw_at lw_m1 27 rfl) rfl
theorem q446 : (Jvm.Cond.methodLink "ThunderCasksLaw" (13 : Nat) ({ cls := "ThunderCasks", name := "frost", desc := "(II)I" } : Jvm.MethodName)) ∈ lw_all := lw_g (lw_at lw_m2 106 rfl) rfl
theorem q461 : (Jvm.Cond.methodLink "ThunderCasksLaw" (18 : Nat) ({ cls := "ThunderCasks", name := "cellar", desc := "(II)I" } : Jvm.MethodName)) ∈ lw_all := lw_g (lw_at lw_m2 121 rfl) rfl
theorem q473 : (Jvm.Cond.methodLink "ThunderCasksLaw" (22 : Nat) ({ cls := "ThunderCasks", name := "storm", desc := "(II)I" } : Jvm.MethodName)) ∈ lw_all := lw_g (lw_at lw_m2 133 rfl) rfl
theorem q480 : (Jvm.Cond.methodLink "ThunderCasksLaw" (26 : Nat) ({ cls := "ThunderCasks", name := "cask", desc := "(II)I" } : Jvm.MethodName)) ∈ lw_all := lw_g (lw_at lw_m2 140 rfl) rfl
theorem q491 : (Jvm.Cond.methodLink "ThunderCasksLaw" (30 : Nat) ({ cls := "ThunderCasks", name := "of", desc := "(II)I" } : Jvm.MethodName)) ∈ lw_all := lw_g (lw_at lw_m2 151 rfl) rfl
theorem q640 : (Jvm.Cond.methodLink "ThunderCasksLaw" (34 : Nat) ({ cls := "ThunderCasks", name := "change", desc := "(III)I" } : Jvm.MethodName)) ∈ lw_all := lw_g (lw_at lw_m3 60 rfl) rfl
theorem q647 : (Jvm.Cond.methodLink "ThunderCasksLaw" (39 : Nat) ({ cls := "ThunderCasks", name := "sell", desc := "(I)I" } : Jvm.MethodName)) ∈ lw_all := lw_g (lw_at lw_m3 67 rfl) rfl
theorem q691 : (Jvm.Cond.methodLink "ThunderCasksLaw" (44 : Nat) ({ cls := "ThunderCasks", name := "go", desc := "(I)I" } : Jvm.MethodName)) ∈ lw_all := lw_g (lw_at lw_m3 111 rfl) rfl
theorem q771 : (Jvm.Cond.methodLink "ThunderCasksLaw" (48 : Nat) ({ cls := "ThunderCasks", name := "now", desc := "(I)I" } : Jvm.MethodName)) ∈ lw_all := lw_g (lw_at lw_m3 191 rfl) rfl
theorem q802 : (Jvm.Cond.methodLink "ThunderCasksLaw" (52 : Nat) ({ cls := "ThunderCasks", name := "ahead", desc := "(III)I" } : Jvm.MethodName)) ∈ lw_all := lw_g (lw_at lw_m3 222 rfl) rfl
theorem q824 : (Jvm.Cond.methodLink "ThunderCasksLaw" (56 : Nat) ({ cls := "ThunderCasks", name := "claps", desc := "(I)I" } : Jvm.MethodName)) ∈ lw_all := lw_g (lw_at lw_m4 4 rfl) rfl
theorem q832 : (Jvm.Cond.methodLink "ThunderCasksLaw" (60 : Nat) ({ cls := "ThunderCasks", name := "bursts", desc := "(I)I" } : Jvm.MethodName)) ∈ lw_all := lw_g (lw_at lw_m4 12 rfl) rfl
theorem q844 : (Jvm.Cond.methodLink "ThunderCasksLaw" (64 : Nat) ({ cls := "ThunderCasks", name := "when", desc := "(II)I" } : Jvm.MethodName)) ∈ lw_all := lw_g (lw_at lw_m4 24 rfl) rfl
theorem q852 : (Jvm.Cond.methodLink "ThunderCasksLaw" (68 : Nat) ({ cls := "ThunderCasks", name := "chain", desc := "(I)I" } : Jvm.MethodName)) ∈ lw_all := lw_g (lw_at lw_m4 32 rfl) rfl
theorem q860 : (Jvm.Cond.methodLink "ThunderCasksLaw" (72 : Nat) ({ cls := "ThunderCasks", name := "lay", desc := "(II)I" } : Jvm.MethodName)) ∈ lw_all := lw_g (lw_at lw_m4 40 rfl) rfl
theorem q873 : (Jvm.Cond.methodLink "ThunderCasksLaw" (76 : Nat) ({ cls := "ThunderCasks", name := "kindFor", desc := "(II)I" } : Jvm.MethodName)) ∈ lw_all := lw_g (lw_at lw_m4 53 rfl) rfl
theorem q877 : (Jvm.Cond.methodLink "ThunderCasksLaw" (80 : Nat) ({ cls := "ThunderCasks", name := "pitchFor", desc := "(II)I" } : Jvm.MethodName)) ∈ lw_all := lw_g (lw_at lw_m4 57 rfl) rfl
theorem q881 : (Jvm.Cond.methodLink "ThunderCasksLaw" (84 : Nat) ({ cls := "ThunderCasks", name := "hoopsFor", desc := "(II)I" } : Jvm.MethodName)) ∈ lw_all := lw_g (lw_at lw_m4 61 rfl) rfl
theorem q889 : (Jvm.Cond.methodLink "ThunderCasksLaw" (88 : Nat) ({ cls := "ThunderCasks", name := "frostFor", desc := "(II)I" } : Jvm.MethodName)) ∈ lw_all := lw_g (lw_at lw_m4 69 rfl) rfl
theorem q897 : (Jvm.Cond.methodLink "ThunderCasksLaw" (92 : Nat) ({ cls := "ThunderCasks", name := "empty", desc := "(I)I" } : Jvm.MethodName)) ∈ lw_all := lw_g (lw_at lw_m4 77 rfl) rfl
theorem q910 : (Jvm.Cond.methodLink "ThunderCasksLaw" (96 : Nat) ({ cls := "ThunderCasks", name := "blend", desc := "(I)I" } : Jvm.MethodName)) ∈ lw_all := lw_g (lw_at lw_m4 90 rfl) rfl
theorem q914 : (Jvm.Cond.methodLink "ThunderCasksLaw" (100 : Nat) ({ cls := "ThunderCasks", name := "order", desc := "(I)I" } : Jvm.MethodName)) ∈ lw_all := lw_g (lw_at lw_m4 94 rfl) rfl
theorem q925 : (Jvm.Cond.methodLink "ThunderCasksLaw" (104 : Nat) ({ cls := "ThunderCasks", name := "blends", desc := "(II)I" } : Jvm.MethodName)) ∈ lw_all := lw_g (lw_at lw_m4 105 rfl) rfl
theorem q933 : (Jvm.Cond.methodLink "ThunderCasksLaw" (108 : Nat) ({ cls := "ThunderCasks", name := "fits", desc := "(II)I" } : Jvm.MethodName)) ∈ lw_all := lw_g (lw_at lw_m4 113 rfl) rfl
theorem q973 : (Jvm.Cond.methodLink "ThunderCasksLaw" (112 : Nat) ({ cls := "ThunderCasks", name := "pealed", desc := "(II)I" } : Jvm.MethodName)) ∈ lw_all := lw_g (lw_at lw_m4 153 rfl) rfl
theorem q977 : (Jvm.Cond.methodLink "ThunderCasksLaw" (116 : Nat) ({ cls := "ThunderCasks", name := "kinds", desc := "(II)I" } : Jvm.MethodName)) ∈ lw_all := lw_g (lw_at lw_m4 157 rfl) rfl
theorem q985 : (Jvm.Cond.methodLink "ThunderCasksLaw" (120 : Nat) ({ cls := "ThunderCasks", name := "storms", desc := "(I)I" } : Jvm.MethodName)) ∈ lw_all := lw_g (lw_at lw_m4 165 rfl) rfl
theorem q998 : (Jvm.Cond.methodLink "ThunderCasksLaw" (124 : Nat) ({ cls := "ThunderCasks", name := "odds", desc := "(II)J" } : Jvm.MethodName)) ∈ lw_all := lw_g (lw_at lw_m4 178 rfl) rfl
theorem q1005 : (Jvm.Cond.methodLink "ThunderCasksLaw" (129 : Nat) ({ cls := "ThunderCasks", name := "seed", desc := "(I)I" } : Jvm.MethodName)) ∈ lw_all := lw_g (lw_at lw_m4 185 rfl) rfl
theorem q1009 : (Jvm.Cond.methodLink "ThunderCasksLaw" (133 : Nat) ({ cls := "ThunderCasks", name := "feed", desc := "(II)I" } : Jvm.MethodName)) ∈ lw_all := lw_g (lw_at lw_m4 189 rfl) rfl
theorem q1013 : (Jvm.Cond.methodLink "ThunderCasksLaw" (137 : Nat) ({ cls := "ThunderCasks", name := "wipe", desc := "()I" } : Jvm.MethodName)) ∈ lw_all := lw_g (lw_at lw_m4 193 rfl) rfl
theorem q1017 : (Jvm.Cond.methodLink "ThunderCasksLaw" (142 : Nat) ({ cls := "ThunderCasks", name := "text", desc := "()I" } : Jvm.MethodName)) ∈ lw_all := lw_g (lw_at lw_m4 197 rfl) rfl
theorem q1131 : (Jvm.Cond.methodLink "ThunderCasksLaw" (146 : Nat) ({ cls := "ThunderCasks", name := "hold", desc := "(II)I" } : Jvm.MethodName)) ∈ lw_all := lw_g (lw_at lw_m5 71 rfl) rfl
theorem q1138 : (Jvm.Cond.methodLink "ThunderCasksLaw" (150 : Nat) ({ cls := "ThunderCasks", name := "as", desc := "(II)I" } : Jvm.MethodName)) ∈ lw_all := lw_g (lw_at lw_m5 78 rfl) rfl
theorem q1170 : (Jvm.Cond.methodLink "ThunderCasksLaw" (154 : Nat) ({ cls := "ThunderCasks", name := "sheet", desc := "(III)I" } : Jvm.MethodName)) ∈ lw_all := lw_g (lw_at lw_m5 110 rfl) rfl
theorem q1175 : (Jvm.Cond.methodLink "ThunderCasksLaw" (158 : Nat) ({ cls := "ThunderCasks", name := "write", desc := "(III)I" } : Jvm.MethodName)) ∈ lw_all := lw_g (lw_at lw_m5 115 rfl) rfl
theorem q1182 : (Jvm.Cond.methodLink "ThunderCasksLaw" (162 : Nat) ({ cls := "ThunderCasks", name := "copy", desc := "(IIIII)I" } : Jvm.MethodName)) ∈ lw_all := lw_g (lw_at lw_m5 122 rfl) rfl
theorem q1193 : (Jvm.Cond.methodLink "ThunderCasksLaw" (167 : Nat) ({ cls := "ThunderCasks", name := "load", desc := "(I)I" } : Jvm.MethodName)) ∈ lw_all := lw_g (lw_at lw_m5 133 rfl) rfl
theorem q1201 : (Jvm.Cond.methodLink "ThunderCasksLaw" (171 : Nat) ({ cls := "ThunderCasks", name := "judge", desc := "(I)I" } : Jvm.MethodName)) ∈ lw_all := lw_g (lw_at lw_m5 141 rfl) rfl
theorem q1205 : (Jvm.Cond.methodLink "ThunderCasksLaw" (175 : Nat) ({ cls := "ThunderCasks", name := "image", desc := "()I" } : Jvm.MethodName)) ∈ lw_all := lw_g (lw_at lw_m5 145 rfl) rfl
theorem q1209 : (Jvm.Cond.methodLink "ThunderCasksLaw" (179 : Nat) ({ cls := "ThunderCasks", name := "undo", desc := "()I" } : Jvm.MethodName)) ∈ lw_all := lw_g (lw_at lw_m5 149 rfl) rfl
theorem q1213 : (Jvm.Cond.methodLink "ThunderCasksLaw" (183 : Nat) ({ cls := "ThunderCasks", name := "tear", desc := "()I" } : Jvm.MethodName)) ∈ lw_all := lw_g (lw_at lw_m5 153 rfl) rfl
theorem q1217 : (Jvm.Cond.methodLink "ThunderCasksLaw" (187 : Nat) ({ cls := "ThunderCasks", name := "count", desc := "(I)I" } : Jvm.MethodName)) ∈ lw_all := lw_g (lw_at lw_m5 157 rfl) rfl
theorem q1225 : (Jvm.Cond.methodLink "ThunderCasksLaw" (191 : Nat) ({ cls := "ThunderCasks", name := "status", desc := "(I)I" } : Jvm.MethodName)) ∈ lw_all := lw_g (lw_at lw_m5 165 rfl) rfl
theorem q1229 : (Jvm.Cond.classLink "ThunderCasksLaw" (10 : Nat) "ThunderCasksModel") ∈ lw_all := lw_g (lw_at lw_m5 169 rfl) rfl
theorem q1231 : (Jvm.Cond.methodLink "ThunderCasksLaw" (12 : Nat) ({ cls := "ThunderCasksModel", name := "<init>", desc := "()V" } : Jvm.MethodName)) ∈ lw_all := lw_g (lw_at lw_m5 171 rfl) rfl
theorem q1290 : (Jvm.Cond.methodLink "ThunderCasksLaw" (17 : Nat) ({ cls := "ThunderCasksModel", name := "frost", desc := "(II)I" } : Jvm.MethodName)) ∈ lw_all := lw_g (lw_at lw_m5 230 rfl) rfl
theorem q1310 : (Jvm.Cond.methodLink "ThunderCasksLaw" (21 : Nat) ({ cls := "ThunderCasksModel", name := "cellar", desc := "(II)I" } : Jvm.MethodName)) ∈ lw_all := lw_g (lw_at lw_m6 10 rfl) rfl
theorem q1327 : (Jvm.Cond.methodLink "ThunderCasksLaw" (25 : Nat) ({ cls := "ThunderCasksModel", name := "storm", desc := "(II)I" } : Jvm.MethodName)) ∈ lw_all := lw_g (lw_at lw_m6 27 rfl) rfl
theorem q1332 : (Jvm.Cond.methodLink "ThunderCasksLaw" (29 : Nat) ({ cls := "ThunderCasksModel", name := "cask", desc := "(II)I" } : Jvm.MethodName)) ∈ lw_all := lw_g (lw_at lw_m6 32 rfl) rfl
theorem q1345 : (Jvm.Cond.methodLink "ThunderCasksLaw" (33 : Nat) ({ cls := "ThunderCasksModel", name := "of", desc := "(II)I" } : Jvm.MethodName)) ∈ lw_all := lw_g (lw_at lw_m6 45 rfl) rfl
theorem q1371 : (Jvm.Cond.methodLink "ThunderCasksLaw" (38 : Nat) ({ cls := "ThunderCasksModel", name := "change", desc := "(III)I" } : Jvm.MethodName)) ∈ lw_all := lw_g (lw_at lw_m6 71 rfl) rfl
theorem q1378 : (Jvm.Cond.methodLink "ThunderCasksLaw" (43 : Nat) ({ cls := "ThunderCasksModel", name := "sell", desc := "(I)I" } : Jvm.MethodName)) ∈ lw_all := lw_g (lw_at lw_m6 78 rfl) rfl
theorem q1382 : (Jvm.Cond.methodLink "ThunderCasksLaw" (47 : Nat) ({ cls := "ThunderCasksModel", name := "go", desc := "(I)I" } : Jvm.MethodName)) ∈ lw_all := lw_g (lw_at lw_m6 82 rfl) rfl
theorem q1416 : (Jvm.Cond.methodLink "ThunderCasksLaw" (51 : Nat) ({ cls := "ThunderCasksModel", name := "now", desc := "(I)I" } : Jvm.MethodName)) ∈ lw_all := lw_g (lw_at lw_m6 116 rfl) rfl
theorem q1436 : (Jvm.Cond.methodLink "ThunderCasksLaw" (55 : Nat) ({ cls := "ThunderCasksModel", name := "ahead", desc := "(III)I" } : Jvm.MethodName)) ∈ lw_all := lw_g (lw_at lw_m6 136 rfl) rfl
theorem q1450 : (Jvm.Cond.methodLink "ThunderCasksLaw" (59 : Nat) ({ cls := "ThunderCasksModel", name := "claps", desc := "(I)I" } : Jvm.MethodName)) ∈ lw_all := lw_g (lw_at lw_m6 150 rfl) rfl
theorem q1458 : (Jvm.Cond.methodLink "ThunderCasksLaw" (63 : Nat) ({ cls := "ThunderCasksModel", name := "bursts", desc := "(I)I" } : Jvm.MethodName)) ∈ lw_all := lw_g (lw_at lw_m6 158 rfl) rfl
theorem q1463 : (Jvm.Cond.methodLink "ThunderCasksLaw" (67 : Nat) ({ cls := "ThunderCasksModel", name := "when", desc := "(II)I" } : Jvm.MethodName)) ∈ lw_all := lw_g (lw_at lw_m6 163 rfl) rfl
theorem q1468 : (Jvm.Cond.methodLink "ThunderCasksLaw" (71 : Nat) ({ cls := "ThunderCasksModel", name := "chain", desc := "(I)I" } : Jvm.MethodName)) ∈ lw_all := lw_g (lw_at lw_m6 168 rfl) rfl
theorem q1472 : (Jvm.Cond.methodLink "ThunderCasksLaw" (75 : Nat) ({ cls := "ThunderCasksModel", name := "lay", desc := "(II)I" } : Jvm.MethodName)) ∈ lw_all := lw_g (lw_at lw_m6 172 rfl) rfl
theorem q1485 : (Jvm.Cond.methodLink "ThunderCasksLaw" (79 : Nat) ({ cls := "ThunderCasksModel", name := "kindFor", desc := "(II)I" } : Jvm.MethodName)) ∈ lw_all := lw_g (lw_at lw_m6 185 rfl) rfl
theorem q1489 : (Jvm.Cond.methodLink "ThunderCasksLaw" (83 : Nat) ({ cls := "ThunderCasksModel", name := "pitchFor", desc := "(II)I" } : Jvm.MethodName)) ∈ lw_all := lw_g (lw_at lw_m6 189 rfl) rfl
theorem q1493 : (Jvm.Cond.methodLink "ThunderCasksLaw" (87 : Nat) ({ cls := "ThunderCasksModel", name := "hoopsFor", desc := "(II)I" } : Jvm.MethodName)) ∈ lw_all := lw_g (lw_at lw_m6 193 rfl) rfl
theorem q1502 : (Jvm.Cond.methodLink "ThunderCasksLaw" (91 : Nat) ({ cls := "ThunderCasksModel", name := "frostFor", desc := "(II)I" } : Jvm.MethodName)) ∈ lw_all := lw_g (lw_at lw_m6 202 rfl) rfl
theorem q1506 : (Jvm.Cond.methodLink "ThunderCasksLaw" (95 : Nat) ({ cls := "ThunderCasksModel", name := "empty", desc := "(I)I" } : Jvm.MethodName)) ∈ lw_all := lw_g (lw_at lw_m6 206 rfl) rfl
theorem q1511 : (Jvm.Cond.methodLink "ThunderCasksLaw" (99 : Nat) ({ cls := "ThunderCasksModel", name := "blend", desc := "(I)I" } : Jvm.MethodName)) ∈ lw_all := lw_g (lw_at lw_m6 211 rfl) rfl
theorem q1519 : (Jvm.Cond.methodLink "ThunderCasksLaw" (103 : Nat) ({ cls := "ThunderCasksModel", name := "order", desc := "(I)I" } : Jvm.MethodName)) ∈ lw_all := lw_g (lw_at lw_m6 219 rfl) rfl
theorem q1524 : (Jvm.Cond.methodLink "ThunderCasksLaw" (107 : Nat) ({ cls := "ThunderCasksModel", name := "blends", desc := "(II)I" } : Jvm.MethodName)) ∈ lw_all := lw_g (lw_at lw_m6 224 rfl) rfl
theorem q1528 : (Jvm.Cond.methodLink "ThunderCasksLaw" (111 : Nat) ({ cls := "ThunderCasksModel", name := "fits", desc := "(II)I" } : Jvm.MethodName)) ∈ lw_all := lw_g (lw_at lw_m6 228 rfl) rfl
theorem q1552 : (Jvm.Cond.methodLink "ThunderCasksLaw" (115 : Nat) ({ cls := "ThunderCasksModel", name := "pealed", desc := "(II)I" } : Jvm.MethodName)) ∈ lw_all := lw_g (lw_at lw_m7 12 rfl) rfl
theorem q1556 : (Jvm.Cond.methodLink "ThunderCasksLaw" (119 : Nat) ({ cls := "ThunderCasksModel", name := "kinds", desc := "(II)I" } : Jvm.MethodName)) ∈ lw_all := lw_g (lw_at lw_m7 16 rfl) rfl
theorem q1560 : (Jvm.Cond.methodLink "ThunderCasksLaw" (123 : Nat) ({ cls := "ThunderCasksModel", name := "storms", desc := "(I)I" } : Jvm.MethodName)) ∈ lw_all := lw_g (lw_at lw_m7 20 rfl) rfl
theorem q1569 : (Jvm.Cond.methodLink "ThunderCasksLaw" (128 : Nat) ({ cls := "ThunderCasksModel", name := "odds", desc := "(II)J" } : Jvm.MethodName)) ∈ lw_all := lw_g (lw_at lw_m7 29 rfl) rfl
theorem q1574 : (Jvm.Cond.methodLink "ThunderCasksLaw" (132 : Nat) ({ cls := "ThunderCasksModel", name := "seed", desc := "(I)I" } : Jvm.MethodName)) ∈ lw_all := lw_g (lw_at lw_m7 34 rfl) rfl
theorem q1578 : (Jvm.Cond.methodLink "ThunderCasksLaw" (136 : Nat) ({ cls := "ThunderCasksModel", name := "feed", desc := "(II)I" } : Jvm.MethodName)) ∈ lw_all := lw_g (lw_at lw_m7 38 rfl) rfl
theorem q1583 : (Jvm.Cond.methodLink "ThunderCasksLaw" (141 : Nat) ({ cls := "ThunderCasksModel", name := "wipe", desc := "()I" } : Jvm.MethodName)) ∈ lw_all := lw_g (lw_at lw_m7 43 rfl) rfl
theorem q1587 : (Jvm.Cond.methodLink "ThunderCasksLaw" (145 : Nat) ({ cls := "ThunderCasksModel", name := "text", desc := "()I" } : Jvm.MethodName)) ∈ lw_all := lw_g (lw_at lw_m7 47 rfl) rfl
theorem q1653 : (Jvm.Cond.methodLink "ThunderCasksLaw" (149 : Nat) ({ cls := "ThunderCasksModel", name := "hold", desc := "(II)I" } : Jvm.MethodName)) ∈ lw_all := lw_g (lw_at lw_m7 113 rfl) rfl
theorem q1657 : (Jvm.Cond.methodLink "ThunderCasksLaw" (153 : Nat) ({ cls := "ThunderCasksModel", name := "as", desc := "(II)I" } : Jvm.MethodName)) ∈ lw_all := lw_g (lw_at lw_m7 117 rfl) rfl
theorem q1665 : (Jvm.Cond.methodLink "ThunderCasksLaw" (157 : Nat) ({ cls := "ThunderCasksModel", name := "sheet", desc := "(III)I" } : Jvm.MethodName)) ∈ lw_all := lw_g (lw_at lw_m7 125 rfl) rfl
theorem q1670 : (Jvm.Cond.methodLink "ThunderCasksLaw" (161 : Nat) ({ cls := "ThunderCasksModel", name := "write", desc := "(III)I" } : Jvm.MethodName)) ∈ lw_all := lw_g (lw_at lw_m7 130 rfl) rfl
theorem q1674 : (Jvm.Cond.methodLink "ThunderCasksLaw" (166 : Nat) ({ cls := "ThunderCasksModel", name := "copy", desc := "(IIIII)I" } : Jvm.MethodName)) ∈ lw_all := lw_g (lw_at lw_m7 134 rfl) rfl
theorem q1678 : (Jvm.Cond.methodLink "ThunderCasksLaw" (170 : Nat) ({ cls := "ThunderCasksModel", name := "load", desc := "(I)I" } : Jvm.MethodName)) ∈ lw_all := lw_g (lw_at lw_m7 138 rfl) rfl
theorem q1682 : (Jvm.Cond.methodLink "ThunderCasksLaw" (174 : Nat) ({ cls := "ThunderCasksModel", name := "judge", desc := "(I)I" } : Jvm.MethodName)) ∈ lw_all := lw_g (lw_at lw_m7 142 rfl) rfl
theorem q1686 : (Jvm.Cond.methodLink "ThunderCasksLaw" (178 : Nat) ({ cls := "ThunderCasksModel", name := "image", desc := "()I" } : Jvm.MethodName)) ∈ lw_all := lw_g (lw_at lw_m7 146 rfl) rfl
theorem q1690 : (Jvm.Cond.methodLink "ThunderCasksLaw" (182 : Nat) ({ cls := "ThunderCasksModel", name := "undo", desc := "()I" } : Jvm.MethodName)) ∈ lw_all := lw_g (lw_at lw_m7 150 rfl) rfl
theorem q1694 : (Jvm.Cond.methodLink "ThunderCasksLaw" (186 : Nat) ({ cls := "ThunderCasksModel", name := "tear", desc := "()I" } : Jvm.MethodName)) ∈ lw_all := lw_g (lw_at lw_m7 154 rfl) rfl
theorem q1698 : (Jvm.Cond.methodLink "ThunderCasksLaw" (190 : Nat) ({ cls := "ThunderCasksModel", name := "count", desc := "(I)I" } : Jvm.MethodName)) ∈ lw_all := lw_g (lw_at lw_m7 158 rfl) rfl
theorem q1702 : (Jvm.Cond.methodLink "ThunderCasksLaw" (194 : Nat) ({ cls := "ThunderCasksModel", name := "status", desc := "(I)I" } : Jvm.MethodName)) ∈ lw_all := lw_g (lw_at lw_m7 162 rfl) rfl
theorem q120 : (Jvm.Cond.initialized "java/lang/System") ∈ lw_all := lw_g (lw_at lw_m1 20 rfl) rfl
set_option maxRecDepth 100000
theorem q818 : (Jvm.Cond.static ({ cls := "java/lang/System", name := "arraycopy", desc := "(Ljava/lang/Object;ILjava/lang/Object;II)V" } : Jvm.MethodName)) ∈ lw_all := lw_g (lw_at lw_m3 238 rfl) rfl
theorem q819 : (Jvm.Cond.native ({ cls := "java/lang/System", name := "arraycopy", desc := "(Ljava/lang/Object;ILjava/lang/Object;II)V" } : Jvm.MethodName)) ∈ lw_all := lw_g (lw_at lw_m3 239 rfl) rfl
theorem q229 : (Jvm.Cond.arrayOver (Jvm.ClassFile.FieldType.array Jvm.ClassFile.FieldType.int)) ∈ lw_tbl := lw_at lw_m1 129 rfl
set_option maxRecDepth 100000
theorem q269 : (Jvm.Cond.arrayClass Jvm.ClassFile.FieldType.byte) ∈ lw_all := lw_g (lw_at lw_m1 169 rfl) rfl
theorem q270 : (Jvm.Cond.arrayClass Jvm.ClassFile.FieldType.int) ∈ lw_all := lw_g (lw_at lw_m1 170 rfl) rfl
theorem q303 : (Jvm.Cond.arrayOver (Jvm.ClassFile.FieldType.object "ThunderCasks$Slot")) ∈ lw_tbl := lw_at lw_m1 203 rfl
theorem q1174 : (Jvm.Cond.arrayClass Jvm.ClassFile.FieldType.short) ∈ lw_all := lw_g (lw_at lw_m5 114 rfl) rfl
