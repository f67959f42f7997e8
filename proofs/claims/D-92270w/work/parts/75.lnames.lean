set_option maxRecDepth 100000
theorem q63 : (Jvm.Cond.initialized "PressedMenLaw") ∈ lw_all := lw_g (lw_at lw_m1 0 rfl) rfl
theorem q87 : (Jvm.Cond.classLink "PressedMenLaw" (7 : Nat) "PressedMen") ∈ lw_all := lw_g (lw_at lw_m1 24 rfl) rfl
theorem q89 : (Jvm.Cond.methodLink "PressedMenLaw" (9 : Nat) ({ cls := "PressedMen", name := "<init>", desc := "()V" } : Jvm.MethodName)) ∈ lw_all := lw_g (lw_at lw_m1 26 rfl) rfl
theorem q174 : (Jvm.Cond.methodLink "PressedMenLaw" (13 : Nat) ({ cls := "PressedMen", name := "streets", desc := "(I)I" } : Jvm.MethodName)) ∈ lw_all := lw_g (lw_at lw_m1 111 rfl) rfl
theorem q185 : (Jvm.Cond.methodLink "PressedMenLaw" (18 : Nat) ({ cls := "PressedMen", name := "way", desc := "(IIZ)I" } : Jvm.MethodName)) ∈ lw_all := lw_g (lw_at lw_m1 122 rfl) rfl
theorem q189 : (Jvm.Cond.methodLink "PressedMenLaw" (23 : Nat) ({ cls := "PressedMen", name := "far", desc := "(II)I" } : Jvm.MethodName)) ∈ lw_all := lw_g (lw_at lw_m1 126 rfl) rfl
theorem q197 : (Jvm.Cond.methodLink "PressedMenLaw" (28 : Nat) ({ cls := "PressedMen", name := "man", desc := "(IIIIIII)I" } : Jvm.MethodName)) ∈ lw_all := lw_g (lw_at lw_m1 134 rfl) rfl
theorem q248 : (Jvm.Cond.methodLink "PressedMenLaw" (33 : Nat) ({ cls := "PressedMen", name := "about", desc := "(II)I" } : Jvm.MethodName)) ∈ lw_all := lw_g (lw_at lw_m1 185 rfl) rfl
theorem q256 : (Jvm.Cond.methodLink "PressedMenLaw" (37 : Nat) ({ cls := "PressedMen", name := "shy", desc := "(IZ)I" } : Jvm.MethodName)) ∈ lw_all := lw_g (lw_at lw_m1 193 rfl) rfl
theorem q260 : (Jvm.Cond.methodLink "PressedMenLaw" (42 : Nat) ({ cls := "PressedMen", name := "where", desc := "(II)I" } : Jvm.MethodName)) ∈ lw_all := lw_g (lw_at lw_m1 197 rfl) rfl
theorem q268 : (Jvm.Cond.methodLink "PressedMenLaw" (46 : Nat) ({ cls := "PressedMen", name := "at", desc := "(I)I" } : Jvm.MethodName)) ∈ lw_all := lw_g (lw_at lw_m1 205 rfl) rfl
theorem q284 : (Jvm.Cond.methodLink "PressedMenLaw" (50 : Nat) ({ cls := "PressedMen", name := "tide", desc := "()I" } : Jvm.MethodName)) ∈ lw_all := lw_g (lw_at lw_m1 221 rfl) rfl
theorem q288 : (Jvm.Cond.methodLink "PressedMenLaw" (55 : Nat) ({ cls := "PressedMen", name := "pass", desc := "(I)I" } : Jvm.MethodName)) ∈ lw_all := lw_g (lw_at lw_m1 225 rfl) rfl
theorem q322 : (Jvm.Cond.methodLink "PressedMenLaw" (59 : Nat) ({ cls := "PressedMen", name := "walk", desc := "(II)I" } : Jvm.MethodName)) ∈ lw_all := lw_g (lw_at lw_m2 19 rfl) rfl
theorem q334 : (Jvm.Cond.methodLink "PressedMenLaw" (63 : Nat) ({ cls := "PressedMen", name := "run", desc := "(I)I" } : Jvm.MethodName)) ∈ lw_all := lw_g (lw_at lw_m2 31 rfl) rfl
theorem q338 : (Jvm.Cond.methodLink "PressedMenLaw" (67 : Nat) ({ cls := "PressedMen", name := "paper", desc := "(IIIIIIIII)I" } : Jvm.MethodName)) ∈ lw_all := lw_g (lw_at lw_m2 35 rfl) rfl
theorem q367 : (Jvm.Cond.methodLink "PressedMenLaw" (72 : Nat) ({ cls := "PressedMen", name := "cover", desc := "(III)I" } : Jvm.MethodName)) ∈ lw_all := lw_g (lw_at lw_m2 64 rfl) rfl
theorem q391 : (Jvm.Cond.methodLink "PressedMenLaw" (77 : Nat) ({ cls := "PressedMen", name := "same", desc := "(II)I" } : Jvm.MethodName)) ∈ lw_all := lw_g (lw_at lw_m2 88 rfl) rfl
theorem q395 : (Jvm.Cond.methodLink "PressedMenLaw" (81 : Nat) ({ cls := "PressedMen", name := "shown", desc := "(II)I" } : Jvm.MethodName)) ∈ lw_all := lw_g (lw_at lw_m2 92 rfl) rfl
theorem q399 : (Jvm.Cond.methodLink "PressedMenLaw" (85 : Nat) ({ cls := "PressedMen", name := "act", desc := "(I)I" } : Jvm.MethodName)) ∈ lw_all := lw_g (lw_at lw_m2 96 rfl) rfl
theorem q431 : (Jvm.Cond.methodLink "PressedMenLaw" (89 : Nat) ({ cls := "PressedMen", name := "sign", desc := "(II)I" } : Jvm.MethodName)) ∈ lw_all := lw_g (lw_at lw_m2 128 rfl) rfl
theorem q439 : (Jvm.Cond.methodLink "PressedMenLaw" (93 : Nat) ({ cls := "PressedMen", name := "fault", desc := "(I)I" } : Jvm.MethodName)) ∈ lw_all := lw_g (lw_at lw_m2 136 rfl) rfl
theorem q559 : (Jvm.Cond.methodLink "PressedMenLaw" (97 : Nat) ({ cls := "PressedMen", name := "force", desc := "(I)I" } : Jvm.MethodName)) ∈ lw_all := lw_g (lw_at lw_m3 16 rfl) rfl
theorem q567 : (Jvm.Cond.methodLink "PressedMenLaw" (101 : Nat) ({ cls := "PressedMen", name := "may", desc := "(II)I" } : Jvm.MethodName)) ∈ lw_all := lw_g (lw_at lw_m3 24 rfl) rfl
theorem q638 : (Jvm.Cond.methodLink "PressedMenLaw" (105 : Nat) ({ cls := "PressedMen", name := "mayTruly", desc := "(I)I" } : Jvm.MethodName)) ∈ lw_all := lw_g (lw_at lw_m3 95 rfl) rfl
theorem q646 : (Jvm.Cond.methodLink "PressedMenLaw" (109 : Nat) ({ cls := "PressedMen", name := "take", desc := "(II)I" } : Jvm.MethodName)) ∈ lw_all := lw_g (lw_at lw_m3 103 rfl) rfl
theorem q684 : (Jvm.Cond.methodLink "PressedMenLaw" (113 : Nat) ({ cls := "PressedMen", name := "taking", desc := "(II)I" } : Jvm.MethodName)) ∈ lw_all := lw_g (lw_at lw_m3 141 rfl) rfl
theorem q688 : (Jvm.Cond.methodLink "PressedMenLaw" (117 : Nat) ({ cls := "PressedMen", name := "wronged", desc := "()I" } : Jvm.MethodName)) ∈ lw_all := lw_g (lw_at lw_m3 145 rfl) rfl
theorem q696 : (Jvm.Cond.methodLink "PressedMenLaw" (121 : Nat) ({ cls := "PressedMen", name := "wrongedMan", desc := "(I)I" } : Jvm.MethodName)) ∈ lw_all := lw_g (lw_at lw_m3 153 rfl) rfl
theorem q700 : (Jvm.Cond.methodLink "PressedMenLaw" (125 : Nat) ({ cls := "PressedMen", name := "letGo", desc := "(I)I" } : Jvm.MethodName)) ∈ lw_all := lw_g (lw_at lw_m3 157 rfl) rfl
theorem q704 : (Jvm.Cond.methodLink "PressedMenLaw" (129 : Nat) ({ cls := "PressedMen", name := "quiet", desc := "()I" } : Jvm.MethodName)) ∈ lw_all := lw_g (lw_at lw_m3 161 rfl) rfl
theorem q708 : (Jvm.Cond.methodLink "PressedMenLaw" (133 : Nat) ({ cls := "PressedMen", name := "heard", desc := "(I)I" } : Jvm.MethodName)) ∈ lw_all := lw_g (lw_at lw_m3 165 rfl) rfl
theorem q712 : (Jvm.Cond.methodLink "PressedMenLaw" (137 : Nat) ({ cls := "PressedMen", name := "tender", desc := "(II)I" } : Jvm.MethodName)) ∈ lw_all := lw_g (lw_at lw_m3 169 rfl) rfl
theorem q716 : (Jvm.Cond.methodLink "PressedMenLaw" (141 : Nat) ({ cls := "PressedMen", name := "met", desc := "(II)I" } : Jvm.MethodName)) ∈ lw_all := lw_g (lw_at lw_m3 173 rfl) rfl
theorem q785 : (Jvm.Cond.methodLink "PressedMenLaw" (145 : Nat) ({ cls := "PressedMen", name := "laid", desc := "(IIII)I" } : Jvm.MethodName)) ∈ lw_all := lw_g (lw_at lw_m4 2 rfl) rfl
theorem q789 : (Jvm.Cond.methodLink "PressedMenLaw" (150 : Nat) ({ cls := "PressedMen", name := "ship", desc := "(IIII)I" } : Jvm.MethodName)) ∈ lw_all := lw_g (lw_at lw_m4 6 rfl) rfl
theorem q819 : (Jvm.Cond.methodLink "PressedMenLaw" (154 : Nat) ({ cls := "PressedMen", name := "of", desc := "(II)I" } : Jvm.MethodName)) ∈ lw_all := lw_g (lw_at lw_m4 36 rfl) rfl
theorem q831 : (Jvm.Cond.methodLink "PressedMenLaw" (158 : Nat) ({ cls := "PressedMen", name := "spare", desc := "(II)I" } : Jvm.MethodName)) ∈ lw_all := lw_g (lw_at lw_m4 48 rfl) rfl
theorem q842 : (Jvm.Cond.methodLink "PressedMenLaw" (162 : Nat) ({ cls := "PressedMen", name := "board", desc := "(II)I" } : Jvm.MethodName)) ∈ lw_all := lw_g (lw_at lw_m4 59 rfl) rfl
theorem q850 : (Jvm.Cond.methodLink "PressedMenLaw" (166 : Nat) ({ cls := "PressedMen", name := "turn", desc := "(II)I" } : Jvm.MethodName)) ∈ lw_all := lw_g (lw_at lw_m4 67 rfl) rfl
theorem q854 : (Jvm.Cond.methodLink "PressedMenLaw" (170 : Nat) ({ cls := "PressedMen", name := "notAshore", desc := "(II)I" } : Jvm.MethodName)) ∈ lw_all := lw_g (lw_at lw_m4 71 rfl) rfl
theorem q858 : (Jvm.Cond.methodLink "PressedMenLaw" (174 : Nat) ({ cls := "PressedMen", name := "taken", desc := "(II)I" } : Jvm.MethodName)) ∈ lw_all := lw_g (lw_at lw_m4 75 rfl) rfl
theorem q874 : (Jvm.Cond.methodLink "PressedMenLaw" (178 : Nat) ({ cls := "PressedMen", name := "fleet", desc := "(I)I" } : Jvm.MethodName)) ∈ lw_all := lw_g (lw_at lw_m4 91 rfl) rfl
theorem q884 : (Jvm.Cond.methodLink "PressedMenLaw" (182 : Nat) ({ cls := "PressedMen", name := "sail", desc := "(I)I" } : Jvm.MethodName)) ∈ lw_all := lw_g (lw_at lw_m4 101 rfl) rfl
theorem q888 : (Jvm.Cond.methodLink "PressedMenLaw" (186 : Nat) ({ cls := "PressedMen", name := "comeHome", desc := "(I)I" } : Jvm.MethodName)) ∈ lw_all := lw_g (lw_at lw_m4 105 rfl) rfl
theorem q892 : (Jvm.Cond.methodLink "PressedMenLaw" (190 : Nat) ({ cls := "PressedMen", name := "ticket", desc := "(III)I" } : Jvm.MethodName)) ∈ lw_all := lw_g (lw_at lw_m4 109 rfl) rfl
theorem q923 : (Jvm.Cond.methodLink "PressedMenLaw" (194 : Nat) ({ cls := "PressedMen", name := "sell", desc := "(III)I" } : Jvm.MethodName)) ∈ lw_all := lw_g (lw_at lw_m4 140 rfl) rfl
theorem q938 : (Jvm.Cond.methodLink "PressedMenLaw" (198 : Nat) ({ cls := "PressedMen", name := "pay", desc := "(II)I" } : Jvm.MethodName)) ∈ lw_all := lw_g (lw_at lw_m4 155 rfl) rfl
theorem q942 : (Jvm.Cond.methodLink "PressedMenLaw" (202 : Nat) ({ cls := "PressedMen", name := "ticketOf", desc := "(II)I" } : Jvm.MethodName)) ∈ lw_all := lw_g (lw_at lw_m4 159 rfl) rfl
theorem q946 : (Jvm.Cond.methodLink "PressedMenLaw" (206 : Nat) ({ cls := "PressedMen", name := "purse", desc := "(I)I" } : Jvm.MethodName)) ∈ lw_all := lw_g (lw_at lw_m4 163 rfl) rfl
theorem q951 : (Jvm.Cond.methodLink "PressedMenLaw" (210 : Nat) ({ cls := "PressedMen", name := "wages", desc := "(IZ)I" } : Jvm.MethodName)) ∈ lw_all := lw_g (lw_at lw_m4 168 rfl) rfl
theorem q955 : (Jvm.Cond.methodLink "PressedMenLaw" (214 : Nat) ({ cls := "PressedMen", name := "count", desc := "(I)I" } : Jvm.MethodName)) ∈ lw_all := lw_g (lw_at lw_m4 172 rfl) rfl
theorem q959 : (Jvm.Cond.classLink "PressedMenLaw" (10 : Nat) "PressedMenModel") ∈ lw_all := lw_g (lw_at lw_m4 176 rfl) rfl
theorem q961 : (Jvm.Cond.methodLink "PressedMenLaw" (12 : Nat) ({ cls := "PressedMenModel", name := "<init>", desc := "()V" } : Jvm.MethodName)) ∈ lw_all := lw_g (lw_at lw_m4 178 rfl) rfl
theorem q1084 : (Jvm.Cond.methodLink "PressedMenLaw" (17 : Nat) ({ cls := "PressedMenModel", name := "streets", desc := "(I)I" } : Jvm.MethodName)) ∈ lw_all := lw_g (lw_at lw_m5 61 rfl) rfl
theorem q1092 : (Jvm.Cond.methodLink "PressedMenLaw" (22 : Nat) ({ cls := "PressedMenModel", name := "way", desc := "(IIZ)I" } : Jvm.MethodName)) ∈ lw_all := lw_g (lw_at lw_m5 69 rfl) rfl
theorem q1100 : (Jvm.Cond.methodLink "PressedMenLaw" (27 : Nat) ({ cls := "PressedMenModel", name := "far", desc := "(II)I" } : Jvm.MethodName)) ∈ lw_all := lw_g (lw_at lw_m5 77 rfl) rfl
theorem q1108 : (Jvm.Cond.methodLink "PressedMenLaw" (32 : Nat) ({ cls := "PressedMenModel", name := "man", desc := "(IIIIIII)I" } : Jvm.MethodName)) ∈ lw_all := lw_g (lw_at lw_m5 85 rfl) rfl
theorem q1119 : (Jvm.Cond.methodLink "PressedMenLaw" (36 : Nat) ({ cls := "PressedMenModel", name := "about", desc := "(II)I" } : Jvm.MethodName)) ∈ lw_all := lw_g (lw_at lw_m5 96 rfl) rfl
theorem q1128 : (Jvm.Cond.methodLink "PressedMenLaw" (41 : Nat) ({ cls := "PressedMenModel", name := "shy", desc := "(IZ)I" } : Jvm.MethodName)) ∈ lw_all := lw_g (lw_at lw_m5 105 rfl) rfl
theorem q1132 : (Jvm.Cond.methodLink "PressedMenLaw" (45 : Nat) ({ cls := "PressedMenModel", name := "where", desc := "(II)I" } : Jvm.MethodName)) ∈ lw_all := lw_g (lw_at lw_m5 109 rfl) rfl
theorem q1136 : (Jvm.Cond.methodLink "PressedMenLaw" (49 : Nat) ({ cls := "PressedMenModel", name := "at", desc := "(I)I" } : Jvm.MethodName)) ∈ lw_all := lw_g (lw_at lw_m5 113 rfl) rfl
theorem q1150 : (Jvm.Cond.methodLink "PressedMenLaw" (54 : Nat) ({ cls := "PressedMenModel", name := "tide", desc := "()I" } : Jvm.MethodName)) ∈ lw_all := lw_g (lw_at lw_m5 127 rfl) rfl
theorem q1154 : (Jvm.Cond.methodLink "PressedMenLaw" (58 : Nat) ({ cls := "PressedMenModel", name := "pass", desc := "(I)I" } : Jvm.MethodName)) ∈ lw_all := lw_g (lw_at lw_m5 131 rfl) rfl
theorem q1173 : (Jvm.Cond.methodLink "PressedMenLaw" (62 : Nat) ({ cls := "PressedMenModel", name := "walk", desc := "(II)I" } : Jvm.MethodName)) ∈ lw_all := lw_g (lw_at lw_m5 150 rfl) rfl
theorem q1177 : (Jvm.Cond.methodLink "PressedMenLaw" (66 : Nat) ({ cls := "PressedMenModel", name := "run", desc := "(I)I" } : Jvm.MethodName)) ∈ lw_all := lw_g (lw_at lw_m5 154 rfl) rfl
theorem q1181 : (Jvm.Cond.methodLink "PressedMenLaw" (71 : Nat) ({ cls := "PressedMenModel", name := "paper", desc := "(IIIIIIIII)I" } : Jvm.MethodName)) ∈ lw_all := lw_g (lw_at lw_m5 158 rfl) rfl
theorem q1191 : (Jvm.Cond.methodLink "PressedMenLaw" (76 : Nat) ({ cls := "PressedMenModel", name := "cover", desc := "(III)I" } : Jvm.MethodName)) ∈ lw_all := lw_g (lw_at lw_m5 168 rfl) rfl
theorem q1207 : (Jvm.Cond.methodLink "PressedMenLaw" (80 : Nat) ({ cls := "PressedMenModel", name := "same", desc := "(II)I" } : Jvm.MethodName)) ∈ lw_all := lw_g (lw_at lw_m5 184 rfl) rfl
theorem q1211 : (Jvm.Cond.methodLink "PressedMenLaw" (84 : Nat) ({ cls := "PressedMenModel", name := "shown", desc := "(II)I" } : Jvm.MethodName)) ∈ lw_all := lw_g (lw_at lw_m5 188 rfl) rfl
theorem q1215 : (Jvm.Cond.methodLink "PressedMenLaw" (88 : Nat) ({ cls := "PressedMenModel", name := "act", desc := "(I)I" } : Jvm.MethodName)) ∈ lw_all := lw_g (lw_at lw_m5 192 rfl) rfl
theorem q1219 : (Jvm.Cond.methodLink "PressedMenLaw" (92 : Nat) ({ cls := "PressedMenModel", name := "sign", desc := "(II)I" } : Jvm.MethodName)) ∈ lw_all := lw_g (lw_at lw_m5 196 rfl) rfl
theorem q1225 : (Jvm.Cond.methodLink "PressedMenLaw" (96 : Nat) ({ cls := "PressedMenModel", name := "fault", desc := "(I)I" } : Jvm.MethodName)) ∈ lw_all := lw_g (lw_at lw_m5 202 rfl) rfl
theorem q1238 : (Jvm.Cond.methodLink "PressedMenLaw" (100 : Nat) ({ cls := "PressedMenModel", name := "force", desc := "(I)I" } : Jvm.MethodName)) ∈ lw_all := lw_g (lw_at lw_m5 215 rfl) rfl
theorem q1246 : (Jvm.Cond.methodLink "PressedMenLaw" (104 : Nat) ({ cls := "PressedMenModel", name := "may", desc := "(II)I" } : Jvm.MethodName)) ∈ lw_all := lw_g (lw_at lw_m5 223 rfl) rfl
theorem q1266 : (Jvm.Cond.methodLink "PressedMenLaw" (108 : Nat) ({ cls := "PressedMenModel", name := "mayTruly", desc := "(I)I" } : Jvm.MethodName)) ∈ lw_all := lw_g (lw_at lw_m6 3 rfl) rfl
theorem q1274 : (Jvm.Cond.methodLink "PressedMenLaw" (112 : Nat) ({ cls := "PressedMenModel", name := "take", desc := "(II)I" } : Jvm.MethodName)) ∈ lw_all := lw_g (lw_at lw_m6 11 rfl) rfl
theorem q1282 : (Jvm.Cond.methodLink "PressedMenLaw" (116 : Nat) ({ cls := "PressedMenModel", name := "taking", desc := "(II)I" } : Jvm.MethodName)) ∈ lw_all := lw_g (lw_at lw_m6 19 rfl) rfl
theorem q1286 : (Jvm.Cond.methodLink "PressedMenLaw" (120 : Nat) ({ cls := "PressedMenModel", name := "wronged", desc := "()I" } : Jvm.MethodName)) ∈ lw_all := lw_g (lw_at lw_m6 23 rfl) rfl
theorem q1294 : (Jvm.Cond.methodLink "PressedMenLaw" (124 : Nat) ({ cls := "PressedMenModel", name := "wrongedMan", desc := "(I)I" } : Jvm.MethodName)) ∈ lw_all := lw_g (lw_at lw_m6 31 rfl) rfl
theorem q1298 : (Jvm.Cond.methodLink "PressedMenLaw" (128 : Nat) ({ cls := "PressedMenModel", name := "letGo", desc := "(I)I" } : Jvm.MethodName)) ∈ lw_all := lw_g (lw_at lw_m6 35 rfl) rfl
theorem q1302 : (Jvm.Cond.methodLink "PressedMenLaw" (132 : Nat) ({ cls := "PressedMenModel", name := "quiet", desc := "()I" } : Jvm.MethodName)) ∈ lw_all := lw_g (lw_at lw_m6 39 rfl) rfl
theorem q1306 : (Jvm.Cond.methodLink "PressedMenLaw" (136 : Nat) ({ cls := "PressedMenModel", name := "heard", desc := "(I)I" } : Jvm.MethodName)) ∈ lw_all := lw_g (lw_at lw_m6 43 rfl) rfl
theorem q1310 : (Jvm.Cond.methodLink "PressedMenLaw" (140 : Nat) ({ cls := "PressedMenModel", name := "tender", desc := "(II)I" } : Jvm.MethodName)) ∈ lw_all := lw_g (lw_at lw_m6 47 rfl) rfl
theorem q1315 : (Jvm.Cond.methodLink "PressedMenLaw" (144 : Nat) ({ cls := "PressedMenModel", name := "met", desc := "(II)I" } : Jvm.MethodName)) ∈ lw_all := lw_g (lw_at lw_m6 52 rfl) rfl
theorem q1331 : (Jvm.Cond.methodLink "PressedMenLaw" (149 : Nat) ({ cls := "PressedMenModel", name := "laid", desc := "(IIII)I" } : Jvm.MethodName)) ∈ lw_all := lw_g (lw_at lw_m6 68 rfl) rfl
theorem q1335 : (Jvm.Cond.methodLink "PressedMenLaw" (153 : Nat) ({ cls := "PressedMenModel", name := "ship", desc := "(IIII)I" } : Jvm.MethodName)) ∈ lw_all := lw_g (lw_at lw_m6 72 rfl) rfl
theorem q1339 : (Jvm.Cond.methodLink "PressedMenLaw" (157 : Nat) ({ cls := "PressedMenModel", name := "of", desc := "(II)I" } : Jvm.MethodName)) ∈ lw_all := lw_g (lw_at lw_m6 76 rfl) rfl
theorem q1351 : (Jvm.Cond.methodLink "PressedMenLaw" (161 : Nat) ({ cls := "PressedMenModel", name := "spare", desc := "(II)I" } : Jvm.MethodName)) ∈ lw_all := lw_g (lw_at lw_m6 88 rfl) rfl
theorem q1362 : (Jvm.Cond.methodLink "PressedMenLaw" (165 : Nat) ({ cls := "PressedMenModel", name := "board", desc := "(II)I" } : Jvm.MethodName)) ∈ lw_all := lw_g (lw_at lw_m6 99 rfl) rfl
theorem q1366 : (Jvm.Cond.methodLink "PressedMenLaw" (169 : Nat) ({ cls := "PressedMenModel", name := "turn", desc := "(II)I" } : Jvm.MethodName)) ∈ lw_all := lw_g (lw_at lw_m6 103 rfl) rfl
theorem q1370 : (Jvm.Cond.methodLink "PressedMenLaw" (173 : Nat) ({ cls := "PressedMenModel", name := "notAshore", desc := "(II)I" } : Jvm.MethodName)) ∈ lw_all := lw_g (lw_at lw_m6 107 rfl) rfl
theorem q1374 : (Jvm.Cond.methodLink "PressedMenLaw" (177 : Nat) ({ cls := "PressedMenModel", name := "taken", desc := "(II)I" } : Jvm.MethodName)) ∈ lw_all := lw_g (lw_at lw_m6 111 rfl) rfl
theorem q1386 : (Jvm.Cond.methodLink "PressedMenLaw" (181 : Nat) ({ cls := "PressedMenModel", name := "fleet", desc := "(I)I" } : Jvm.MethodName)) ∈ lw_all := lw_g (lw_at lw_m6 123 rfl) rfl
theorem q1390 : (Jvm.Cond.methodLink "PressedMenLaw" (185 : Nat) ({ cls := "PressedMenModel", name := "sail", desc := "(I)I" } : Jvm.MethodName)) ∈ lw_all := lw_g (lw_at lw_m6 127 rfl) rfl
theorem q1394 : (Jvm.Cond.methodLink "PressedMenLaw" (189 : Nat) ({ cls := "PressedMenModel", name := "comeHome", desc := "(I)I" } : Jvm.MethodName)) ∈ lw_all := lw_g (lw_at lw_m6 131 rfl) rfl
theorem q1398 : (Jvm.Cond.methodLink "PressedMenLaw" (193 : Nat) ({ cls := "PressedMenModel", name := "ticket", desc := "(III)I" } : Jvm.MethodName)) ∈ lw_all := lw_g (lw_at lw_m6 135 rfl) rfl
theorem q1403 : (Jvm.Cond.methodLink "PressedMenLaw" (197 : Nat) ({ cls := "PressedMenModel", name := "sell", desc := "(III)I" } : Jvm.MethodName)) ∈ lw_all := lw_g (lw_at lw_m6 140 rfl) rfl
theorem q1419 : (Jvm.Cond.methodLink "PressedMenLaw" (201 : Nat) ({ cls := "PressedMenModel", name := "pay", desc := "(II)I" } : Jvm.MethodName)) ∈ lw_all := lw_g (lw_at lw_m6 156 rfl) rfl
theorem q1423 : (Jvm.Cond.methodLink "PressedMenLaw" (205 : Nat) ({ cls := "PressedMenModel", name := "ticketOf", desc := "(II)I" } : Jvm.MethodName)) ∈ lw_all := lw_g (lw_at lw_m6 160 rfl) rfl
theorem q1427 : (Jvm.Cond.methodLink "PressedMenLaw" (209 : Nat) ({ cls := "PressedMenModel", name := "purse", desc := "(I)I" } : Jvm.MethodName)) ∈ lw_all := lw_g (lw_at lw_m6 164 rfl) rfl
theorem q1432 : (Jvm.Cond.methodLink "PressedMenLaw" (213 : Nat) ({ cls := "PressedMenModel", name := "wages", desc := "(IZ)I" } : Jvm.MethodName)) ∈ lw_all := lw_g (lw_at lw_m6 169 rfl) rfl
theorem q1436 : (Jvm.Cond.methodLink "PressedMenLaw" (217 : Nat) ({ cls := "PressedMenModel", name := "count", desc := "(I)I" } : Jvm.MethodName)) ∈ lw_all := lw_g (lw_at lw_m6 173 rfl) rfl
/-! the law's own entry -/
abbrev cL_law : ByteArray := code
theorem dL_law_0 : decode cL_law 0 = .ok (.new 7, 3) := by decide +kernel
theorem dL_law_3 : decode cL_law 3 = .ok (.dup, 1) := by decide +kernel
theorem dL_law_4 : decode cL_law 4 = .ok (.invokespecial 9, 3) := by decide +kernel
theorem dL_law_7 : decode cL_law 7 = .ok (.astore_n 1, 1) := by decide +kernel
theorem dL_law_8 : decode cL_law 8 = .ok (.new 10, 3) := by decide +kernel
theorem dL_law_11 : decode cL_law 11 = .ok (.dup, 1) := by decide +kernel
theorem dL_law_12 : decode cL_law 12 = .ok (.invokespecial 12, 3) := by decide +kernel
theorem dL_law_15 : decode cL_law 15 = .ok (.astore_n 2, 1) := by decide +kernel
theorem dL_law_16 : decode cL_law 16 = .ok (.iconst 0, 1) := by decide +kernel
theorem dL_law_17 : decode cL_law 17 = .ok (.istore_n 3, 1) := by decide +kernel
theorem dL_law_18 : decode cL_law 18 = .ok (.iload_n 3, 1) := by decide +kernel
theorem dL_law_19 : decode cL_law 19 = .ok (.aload_n 0, 1) := by decide +kernel
theorem dL_law_20 : decode cL_law 20 = .ok (.arraylength, 1) := by decide +kernel
theorem dL_law_21 : decode cL_law 21 = .ok (.bipush 10, 2) := by decide +kernel
theorem dL_law_23 : decode cL_law 23 = .ok (.isub, 1) := by decide +kernel
theorem dL_law_24 : decode cL_law 24 = .ok (.if_icmp .gt 1883, 3) := by decide +kernel
theorem dL_law_27 : decode cL_law 27 = .ok (.aload_n 0, 1) := by decide +kernel
theorem dL_law_28 : decode cL_law 28 = .ok (.iload_n 3, 1) := by decide +kernel
theorem dL_law_29 : decode cL_law 29 = .ok (.iaload, 1) := by decide +kernel
theorem dL_law_30 : decode cL_law 30 = .ok (.bipush 63, 2) := by decide +kernel
theorem dL_law_32 : decode cL_law 32 = .ok (.iand, 1) := by decide +kernel
theorem dL_law_33 : decode cL_law 33 = .ok (.tableswitch 1868 0 48 #[211, 234, 293, 326, 413, 446, 495, 528, 551, 564, 587, 620, 643, 754, 797, 830, 863, 886, 919, 942, 965, 998, 1021, 1054, 1087, 1100, 1123, 1146, 1159, 1182, 1215, 1248, 1301, 1354, 1387, 1420, 1453, 1486, 1519, 1552, 1575, 1598, 1621, 1664, 1707, 1740, 1773, 1796, 1845], 211) := by decide +kernel
theorem dL_law_244 : decode cL_law 244 = .ok (.aload_n 1, 1) := by decide +kernel
theorem dL_law_245 : decode cL_law 245 = .ok (.aload_n 0, 1) := by decide +kernel
theorem dL_law_246 : decode cL_law 246 = .ok (.iload_n 3, 1) := by decide +kernel
theorem dL_law_247 : decode cL_law 247 = .ok (.iconst 1, 1) := by decide +kernel
theorem dL_law_248 : decode cL_law 248 = .ok (.iadd, 1) := by decide +kernel
theorem dL_law_249 : decode cL_law 249 = .ok (.iaload, 1) := by decide +kernel
theorem dL_law_250 : decode cL_law 250 = .ok (.invokevirtual 13, 3) := by decide +kernel
theorem dL_law_253 : decode cL_law 253 = .ok (.aload_n 2, 1) := by decide +kernel
theorem dL_law_254 : decode cL_law 254 = .ok (.aload_n 0, 1) := by decide +kernel
theorem dL_law_255 : decode cL_law 255 = .ok (.iload_n 3, 1) := by decide +kernel
theorem dL_law_256 : decode cL_law 256 = .ok (.iconst 1, 1) := by decide +kernel
theorem dL_law_257 : decode cL_law 257 = .ok (.iadd, 1) := by decide +kernel
theorem dL_law_258 : decode cL_law 258 = .ok (.iaload, 1) := by decide +kernel
theorem dL_law_259 : decode cL_law 259 = .ok (.invokevirtual 17, 3) := by decide +kernel
theorem dL_law_262 : decode cL_law 262 = .ok (.if_icmp .eq 1639, 3) := by decide +kernel
theorem dL_law_265 : decode cL_law 265 = .ok (.iconst 0, 1) := by decide +kernel
theorem dL_law_266 : decode cL_law 266 = .ok (.ireturn, 1) := by decide +kernel
theorem dL_law_267 : decode cL_law 267 = .ok (.aload_n 1, 1) := by decide +kernel
theorem dL_law_268 : decode cL_law 268 = .ok (.aload_n 0, 1) := by decide +kernel
theorem dL_law_269 : decode cL_law 269 = .ok (.iload_n 3, 1) := by decide +kernel
theorem dL_law_270 : decode cL_law 270 = .ok (.iconst 1, 1) := by decide +kernel
theorem dL_law_271 : decode cL_law 271 = .ok (.iadd, 1) := by decide +kernel
theorem dL_law_272 : decode cL_law 272 = .ok (.iaload, 1) := by decide +kernel
theorem dL_law_273 : decode cL_law 273 = .ok (.aload_n 0, 1) := by decide +kernel
theorem dL_law_274 : decode cL_law 274 = .ok (.iload_n 3, 1) := by decide +kernel
theorem dL_law_275 : decode cL_law 275 = .ok (.iconst 2, 1) := by decide +kernel
theorem dL_law_276 : decode cL_law 276 = .ok (.iadd, 1) := by decide +kernel
theorem dL_law_277 : decode cL_law 277 = .ok (.iaload, 1) := by decide +kernel
theorem dL_law_278 : decode cL_law 278 = .ok (.aload_n 0, 1) := by decide +kernel
theorem dL_law_279 : decode cL_law 279 = .ok (.iload_n 3, 1) := by decide +kernel
theorem dL_law_280 : decode cL_law 280 = .ok (.iconst 3, 1) := by decide +kernel
theorem dL_law_281 : decode cL_law 281 = .ok (.iadd, 1) := by decide +kernel
theorem dL_law_282 : decode cL_law 282 = .ok (.iaload, 1) := by decide +kernel
theorem dL_law_283 : decode cL_law 283 = .ok (.ifCond .eq 7, 3) := by decide +kernel
theorem dL_law_286 : decode cL_law 286 = .ok (.iconst 1, 1) := by decide +kernel
theorem dL_law_287 : decode cL_law 287 = .ok (.goto 4, 3) := by decide +kernel
theorem dL_law_290 : decode cL_law 290 = .ok (.iconst 0, 1) := by decide +kernel
theorem dL_law_291 : decode cL_law 291 = .ok (.invokevirtual 18, 3) := by decide +kernel
theorem dL_law_294 : decode cL_law 294 = .ok (.aload_n 2, 1) := by decide +kernel
theorem dL_law_295 : decode cL_law 295 = .ok (.aload_n 0, 1) := by decide +kernel
theorem dL_law_296 : decode cL_law 296 = .ok (.iload_n 3, 1) := by decide +kernel
theorem dL_law_297 : decode cL_law 297 = .ok (.iconst 1, 1) := by decide +kernel
theorem dL_law_298 : decode cL_law 298 = .ok (.iadd, 1) := by decide +kernel
theorem dL_law_299 : decode cL_law 299 = .ok (.iaload, 1) := by decide +kernel
theorem dL_law_300 : decode cL_law 300 = .ok (.aload_n 0, 1) := by decide +kernel
theorem dL_law_301 : decode cL_law 301 = .ok (.iload_n 3, 1) := by decide +kernel
theorem dL_law_302 : decode cL_law 302 = .ok (.iconst 2, 1) := by decide +kernel
theorem dL_law_303 : decode cL_law 303 = .ok (.iadd, 1) := by decide +kernel
theorem dL_law_304 : decode cL_law 304 = .ok (.iaload, 1) := by decide +kernel
theorem dL_law_305 : decode cL_law 305 = .ok (.aload_n 0, 1) := by decide +kernel
theorem dL_law_306 : decode cL_law 306 = .ok (.iload_n 3, 1) := by decide +kernel
theorem dL_law_307 : decode cL_law 307 = .ok (.iconst 3, 1) := by decide +kernel
theorem dL_law_308 : decode cL_law 308 = .ok (.iadd, 1) := by decide +kernel
theorem dL_law_309 : decode cL_law 309 = .ok (.iaload, 1) := by decide +kernel
theorem dL_law_310 : decode cL_law 310 = .ok (.ifCond .eq 7, 3) := by decide +kernel
theorem dL_law_313 : decode cL_law 313 = .ok (.iconst 1, 1) := by decide +kernel
theorem dL_law_314 : decode cL_law 314 = .ok (.goto 4, 3) := by decide +kernel
theorem dL_law_317 : decode cL_law 317 = .ok (.iconst 0, 1) := by decide +kernel
theorem dL_law_318 : decode cL_law 318 = .ok (.invokevirtual 22, 3) := by decide +kernel
theorem dL_law_321 : decode cL_law 321 = .ok (.if_icmp .eq 1580, 3) := by decide +kernel
theorem dL_law_324 : decode cL_law 324 = .ok (.iconst 0, 1) := by decide +kernel
theorem dL_law_325 : decode cL_law 325 = .ok (.ireturn, 1) := by decide +kernel
theorem dL_law_326 : decode cL_law 326 = .ok (.aload_n 1, 1) := by decide +kernel
theorem dL_law_327 : decode cL_law 327 = .ok (.aload_n 0, 1) := by decide +kernel
theorem dL_law_328 : decode cL_law 328 = .ok (.iload_n 3, 1) := by decide +kernel
theorem dL_law_329 : decode cL_law 329 = .ok (.iconst 1, 1) := by decide +kernel
theorem dL_law_330 : decode cL_law 330 = .ok (.iadd, 1) := by decide +kernel
theorem dL_law_331 : decode cL_law 331 = .ok (.iaload, 1) := by decide +kernel
theorem dL_law_332 : decode cL_law 332 = .ok (.aload_n 0, 1) := by decide +kernel
theorem dL_law_333 : decode cL_law 333 = .ok (.iload_n 3, 1) := by decide +kernel
theorem dL_law_334 : decode cL_law 334 = .ok (.iconst 2, 1) := by decide +kernel
theorem dL_law_335 : decode cL_law 335 = .ok (.iadd, 1) := by decide +kernel
theorem dL_law_336 : decode cL_law 336 = .ok (.iaload, 1) := by decide +kernel
theorem dL_law_337 : decode cL_law 337 = .ok (.invokevirtual 23, 3) := by decide +kernel
theorem dL_law_340 : decode cL_law 340 = .ok (.aload_n 2, 1) := by decide +kernel
theorem dL_law_341 : decode cL_law 341 = .ok (.aload_n 0, 1) := by decide +kernel
theorem dL_law_342 : decode cL_law 342 = .ok (.iload_n 3, 1) := by decide +kernel
theorem dL_law_343 : decode cL_law 343 = .ok (.iconst 1, 1) := by decide +kernel
theorem dL_law_344 : decode cL_law 344 = .ok (.iadd, 1) := by decide +kernel
theorem dL_law_345 : decode cL_law 345 = .ok (.iaload, 1) := by decide +kernel
theorem dL_law_346 : decode cL_law 346 = .ok (.aload_n 0, 1) := by decide +kernel
theorem dL_law_347 : decode cL_law 347 = .ok (.iload_n 3, 1) := by decide +kernel
theorem dL_law_348 : decode cL_law 348 = .ok (.iconst 2, 1) := by decide +kernel
theorem dL_law_349 : decode cL_law 349 = .ok (.iadd, 1) := by decide +kernel
theorem dL_law_350 : decode cL_law 350 = .ok (.iaload, 1) := by decide +kernel
theorem dL_law_351 : decode cL_law 351 = .ok (.invokevirtual 27, 3) := by decide +kernel
theorem dL_law_354 : decode cL_law 354 = .ok (.if_icmp .eq 1547, 3) := by decide +kernel
theorem dL_law_357 : decode cL_law 357 = .ok (.iconst 0, 1) := by decide +kernel
theorem dL_law_358 : decode cL_law 358 = .ok (.ireturn, 1) := by decide +kernel
theorem dL_law_359 : decode cL_law 359 = .ok (.aload_n 1, 1) := by decide +kernel
theorem dL_law_360 : decode cL_law 360 = .ok (.aload_n 0, 1) := by decide +kernel
theorem dL_law_361 : decode cL_law 361 = .ok (.iload_n 3, 1) := by decide +kernel
theorem dL_law_362 : decode cL_law 362 = .ok (.iconst 1, 1) := by decide +kernel
theorem dL_law_363 : decode cL_law 363 = .ok (.iadd, 1) := by decide +kernel
theorem dL_law_364 : decode cL_law 364 = .ok (.iaload, 1) := by decide +kernel
theorem dL_law_365 : decode cL_law 365 = .ok (.aload_n 0, 1) := by decide +kernel
theorem dL_law_366 : decode cL_law 366 = .ok (.iload_n 3, 1) := by decide +kernel
theorem dL_law_367 : decode cL_law 367 = .ok (.iconst 2, 1) := by decide +kernel
theorem dL_law_368 : decode cL_law 368 = .ok (.iadd, 1) := by decide +kernel
theorem dL_law_369 : decode cL_law 369 = .ok (.iaload, 1) := by decide +kernel
theorem dL_law_370 : decode cL_law 370 = .ok (.aload_n 0, 1) := by decide +kernel
theorem dL_law_371 : decode cL_law 371 = .ok (.iload_n 3, 1) := by decide +kernel
theorem dL_law_372 : decode cL_law 372 = .ok (.iconst 3, 1) := by decide +kernel
theorem dL_law_373 : decode cL_law 373 = .ok (.iadd, 1) := by decide +kernel
theorem dL_law_374 : decode cL_law 374 = .ok (.iaload, 1) := by decide +kernel
theorem dL_law_375 : decode cL_law 375 = .ok (.aload_n 0, 1) := by decide +kernel
theorem dL_law_376 : decode cL_law 376 = .ok (.iload_n 3, 1) := by decide +kernel
theorem dL_law_377 : decode cL_law 377 = .ok (.iconst 4, 1) := by decide +kernel
theorem dL_law_378 : decode cL_law 378 = .ok (.iadd, 1) := by decide +kernel
theorem dL_law_379 : decode cL_law 379 = .ok (.iaload, 1) := by decide +kernel
theorem dL_law_380 : decode cL_law 380 = .ok (.aload_n 0, 1) := by decide +kernel
theorem dL_law_381 : decode cL_law 381 = .ok (.iload_n 3, 1) := by decide +kernel
theorem dL_law_382 : decode cL_law 382 = .ok (.iconst 5, 1) := by decide +kernel
theorem dL_law_383 : decode cL_law 383 = .ok (.iadd, 1) := by decide +kernel
theorem dL_law_384 : decode cL_law 384 = .ok (.iaload, 1) := by decide +kernel
theorem dL_law_385 : decode cL_law 385 = .ok (.aload_n 0, 1) := by decide +kernel
theorem dL_law_386 : decode cL_law 386 = .ok (.iload_n 3, 1) := by decide +kernel
theorem dL_law_387 : decode cL_law 387 = .ok (.bipush 6, 2) := by decide +kernel
theorem dL_law_389 : decode cL_law 389 = .ok (.iadd, 1) := by decide +kernel
theorem dL_law_390 : decode cL_law 390 = .ok (.iaload, 1) := by decide +kernel
theorem dL_law_391 : decode cL_law 391 = .ok (.aload_n 0, 1) := by decide +kernel
theorem dL_law_392 : decode cL_law 392 = .ok (.iload_n 3, 1) := by decide +kernel
theorem dL_law_393 : decode cL_law 393 = .ok (.bipush 7, 2) := by decide +kernel
theorem dL_law_395 : decode cL_law 395 = .ok (.iadd, 1) := by decide +kernel
theorem dL_law_396 : decode cL_law 396 = .ok (.iaload, 1) := by decide +kernel
theorem dL_law_397 : decode cL_law 397 = .ok (.invokevirtual 28, 3) := by decide +kernel
theorem dL_law_400 : decode cL_law 400 = .ok (.aload_n 2, 1) := by decide +kernel
theorem dL_law_401 : decode cL_law 401 = .ok (.aload_n 0, 1) := by decide +kernel
theorem dL_law_402 : decode cL_law 402 = .ok (.iload_n 3, 1) := by decide +kernel
theorem dL_law_403 : decode cL_law 403 = .ok (.iconst 1, 1) := by decide +kernel
theorem dL_law_404 : decode cL_law 404 = .ok (.iadd, 1) := by decide +kernel
theorem dL_law_405 : decode cL_law 405 = .ok (.iaload, 1) := by decide +kernel
theorem dL_law_406 : decode cL_law 406 = .ok (.aload_n 0, 1) := by decide +kernel
theorem dL_law_407 : decode cL_law 407 = .ok (.iload_n 3, 1) := by decide +kernel
theorem dL_law_408 : decode cL_law 408 = .ok (.iconst 2, 1) := by decide +kernel
theorem dL_law_409 : decode cL_law 409 = .ok (.iadd, 1) := by decide +kernel
theorem dL_law_410 : decode cL_law 410 = .ok (.iaload, 1) := by decide +kernel
theorem dL_law_411 : decode cL_law 411 = .ok (.aload_n 0, 1) := by decide +kernel
theorem dL_law_412 : decode cL_law 412 = .ok (.iload_n 3, 1) := by decide +kernel
theorem dL_law_413 : decode cL_law 413 = .ok (.iconst 3, 1) := by decide +kernel
theorem dL_law_414 : decode cL_law 414 = .ok (.iadd, 1) := by decide +kernel
theorem dL_law_415 : decode cL_law 415 = .ok (.iaload, 1) := by decide +kernel
theorem dL_law_416 : decode cL_law 416 = .ok (.aload_n 0, 1) := by decide +kernel
theorem dL_law_417 : decode cL_law 417 = .ok (.iload_n 3, 1) := by decide +kernel
theorem dL_law_418 : decode cL_law 418 = .ok (.iconst 4, 1) := by decide +kernel
theorem dL_law_419 : decode cL_law 419 = .ok (.iadd, 1) := by decide +kernel
theorem dL_law_420 : decode cL_law 420 = .ok (.iaload, 1) := by decide +kernel
theorem dL_law_421 : decode cL_law 421 = .ok (.aload_n 0, 1) := by decide +kernel
theorem dL_law_422 : decode cL_law 422 = .ok (.iload_n 3, 1) := by decide +kernel
theorem dL_law_423 : decode cL_law 423 = .ok (.iconst 5, 1) := by decide +kernel
theorem dL_law_424 : decode cL_law 424 = .ok (.iadd, 1) := by decide +kernel
theorem dL_law_425 : decode cL_law 425 = .ok (.iaload, 1) := by decide +kernel
theorem dL_law_426 : decode cL_law 426 = .ok (.aload_n 0, 1) := by decide +kernel
theorem dL_law_427 : decode cL_law 427 = .ok (.iload_n 3, 1) := by decide +kernel
theorem dL_law_428 : decode cL_law 428 = .ok (.bipush 6, 2) := by decide +kernel
theorem dL_law_430 : decode cL_law 430 = .ok (.iadd, 1) := by decide +kernel
theorem dL_law_431 : decode cL_law 431 = .ok (.iaload, 1) := by decide +kernel
theorem dL_law_432 : decode cL_law 432 = .ok (.aload_n 0, 1) := by decide +kernel
theorem dL_law_433 : decode cL_law 433 = .ok (.iload_n 3, 1) := by decide +kernel
theorem dL_law_434 : decode cL_law 434 = .ok (.bipush 7, 2) := by decide +kernel
theorem dL_law_436 : decode cL_law 436 = .ok (.iadd, 1) := by decide +kernel
theorem dL_law_437 : decode cL_law 437 = .ok (.iaload, 1) := by decide +kernel
theorem dL_law_438 : decode cL_law 438 = .ok (.invokevirtual 32, 3) := by decide +kernel
theorem dL_law_441 : decode cL_law 441 = .ok (.if_icmp .eq 1460, 3) := by decide +kernel
theorem dL_law_444 : decode cL_law 444 = .ok (.iconst 0, 1) := by decide +kernel
theorem dL_law_445 : decode cL_law 445 = .ok (.ireturn, 1) := by decide +kernel
theorem dL_law_446 : decode cL_law 446 = .ok (.aload_n 1, 1) := by decide +kernel
theorem dL_law_447 : decode cL_law 447 = .ok (.aload_n 0, 1) := by decide +kernel
theorem dL_law_448 : decode cL_law 448 = .ok (.iload_n 3, 1) := by decide +kernel
theorem dL_law_449 : decode cL_law 449 = .ok (.iconst 1, 1) := by decide +kernel
theorem dL_law_450 : decode cL_law 450 = .ok (.iadd, 1) := by decide +kernel
theorem dL_law_451 : decode cL_law 451 = .ok (.iaload, 1) := by decide +kernel
theorem dL_law_452 : decode cL_law 452 = .ok (.aload_n 0, 1) := by decide +kernel
theorem dL_law_453 : decode cL_law 453 = .ok (.iload_n 3, 1) := by decide +kernel
theorem dL_law_454 : decode cL_law 454 = .ok (.iconst 2, 1) := by decide +kernel
theorem dL_law_455 : decode cL_law 455 = .ok (.iadd, 1) := by decide +kernel
theorem dL_law_456 : decode cL_law 456 = .ok (.iaload, 1) := by decide +kernel
theorem dL_law_457 : decode cL_law 457 = .ok (.invokevirtual 33, 3) := by decide +kernel
theorem dL_law_460 : decode cL_law 460 = .ok (.aload_n 2, 1) := by decide +kernel
theorem dL_law_461 : decode cL_law 461 = .ok (.aload_n 0, 1) := by decide +kernel
theorem dL_law_462 : decode cL_law 462 = .ok (.iload_n 3, 1) := by decide +kernel
theorem dL_law_463 : decode cL_law 463 = .ok (.iconst 1, 1) := by decide +kernel
theorem dL_law_464 : decode cL_law 464 = .ok (.iadd, 1) := by decide +kernel
theorem dL_law_465 : decode cL_law 465 = .ok (.iaload, 1) := by decide +kernel
theorem dL_law_466 : decode cL_law 466 = .ok (.aload_n 0, 1) := by decide +kernel
theorem dL_law_467 : decode cL_law 467 = .ok (.iload_n 3, 1) := by decide +kernel
theorem dL_law_468 : decode cL_law 468 = .ok (.iconst 2, 1) := by decide +kernel
theorem dL_law_469 : decode cL_law 469 = .ok (.iadd, 1) := by decide +kernel
theorem dL_law_470 : decode cL_law 470 = .ok (.iaload, 1) := by decide +kernel
theorem dL_law_471 : decode cL_law 471 = .ok (.invokevirtual 36, 3) := by decide +kernel
theorem dL_law_474 : decode cL_law 474 = .ok (.if_icmp .eq 1427, 3) := by decide +kernel
theorem dL_law_477 : decode cL_law 477 = .ok (.iconst 0, 1) := by decide +kernel
theorem dL_law_478 : decode cL_law 478 = .ok (.ireturn, 1) := by decide +kernel
theorem dL_law_479 : decode cL_law 479 = .ok (.aload_n 1, 1) := by decide +kernel
theorem dL_law_480 : decode cL_law 480 = .ok (.aload_n 0, 1) := by decide +kernel
theorem dL_law_481 : decode cL_law 481 = .ok (.iload_n 3, 1) := by decide +kernel
theorem dL_law_482 : decode cL_law 482 = .ok (.iconst 1, 1) := by decide +kernel
theorem dL_law_483 : decode cL_law 483 = .ok (.iadd, 1) := by decide +kernel
theorem dL_law_484 : decode cL_law 484 = .ok (.iaload, 1) := by decide +kernel
theorem dL_law_485 : decode cL_law 485 = .ok (.aload_n 0, 1) := by decide +kernel
theorem dL_law_486 : decode cL_law 486 = .ok (.iload_n 3, 1) := by decide +kernel
theorem dL_law_487 : decode cL_law 487 = .ok (.iconst 2, 1) := by decide +kernel
theorem dL_law_488 : decode cL_law 488 = .ok (.iadd, 1) := by decide +kernel
theorem dL_law_489 : decode cL_law 489 = .ok (.iaload, 1) := by decide +kernel
theorem dL_law_490 : decode cL_law 490 = .ok (.ifCond .eq 7, 3) := by decide +kernel
theorem dL_law_493 : decode cL_law 493 = .ok (.iconst 1, 1) := by decide +kernel
theorem dL_law_494 : decode cL_law 494 = .ok (.goto 4, 3) := by decide +kernel
theorem dL_law_497 : decode cL_law 497 = .ok (.iconst 0, 1) := by decide +kernel
theorem dL_law_498 : decode cL_law 498 = .ok (.invokevirtual 37, 3) := by decide +kernel
theorem dL_law_501 : decode cL_law 501 = .ok (.aload_n 2, 1) := by decide +kernel
theorem dL_law_502 : decode cL_law 502 = .ok (.aload_n 0, 1) := by decide +kernel
theorem dL_law_503 : decode cL_law 503 = .ok (.iload_n 3, 1) := by decide +kernel
theorem dL_law_504 : decode cL_law 504 = .ok (.iconst 1, 1) := by decide +kernel
theorem dL_law_505 : decode cL_law 505 = .ok (.iadd, 1) := by decide +kernel
theorem dL_law_506 : decode cL_law 506 = .ok (.iaload, 1) := by decide +kernel
theorem dL_law_507 : decode cL_law 507 = .ok (.aload_n 0, 1) := by decide +kernel
theorem dL_law_508 : decode cL_law 508 = .ok (.iload_n 3, 1) := by decide +kernel
theorem dL_law_509 : decode cL_law 509 = .ok (.iconst 2, 1) := by decide +kernel
theorem dL_law_510 : decode cL_law 510 = .ok (.iadd, 1) := by decide +kernel
theorem dL_law_511 : decode cL_law 511 = .ok (.iaload, 1) := by decide +kernel
theorem dL_law_512 : decode cL_law 512 = .ok (.ifCond .eq 7, 3) := by decide +kernel
theorem dL_law_515 : decode cL_law 515 = .ok (.iconst 1, 1) := by decide +kernel
theorem dL_law_516 : decode cL_law 516 = .ok (.goto 4, 3) := by decide +kernel
theorem dL_law_519 : decode cL_law 519 = .ok (.iconst 0, 1) := by decide +kernel
theorem dL_law_520 : decode cL_law 520 = .ok (.invokevirtual 41, 3) := by decide +kernel
theorem dL_law_523 : decode cL_law 523 = .ok (.if_icmp .eq 1378, 3) := by decide +kernel
theorem dL_law_526 : decode cL_law 526 = .ok (.iconst 0, 1) := by decide +kernel
theorem dL_law_527 : decode cL_law 527 = .ok (.ireturn, 1) := by decide +kernel
theorem dL_law_528 : decode cL_law 528 = .ok (.aload_n 1, 1) := by decide +kernel
theorem dL_law_529 : decode cL_law 529 = .ok (.aload_n 0, 1) := by decide +kernel
theorem dL_law_530 : decode cL_law 530 = .ok (.iload_n 3, 1) := by decide +kernel
theorem dL_law_531 : decode cL_law 531 = .ok (.iconst 1, 1) := by decide +kernel
theorem dL_law_532 : decode cL_law 532 = .ok (.iadd, 1) := by decide +kernel
theorem dL_law_533 : decode cL_law 533 = .ok (.iaload, 1) := by decide +kernel
theorem dL_law_534 : decode cL_law 534 = .ok (.aload_n 0, 1) := by decide +kernel
theorem dL_law_535 : decode cL_law 535 = .ok (.iload_n 3, 1) := by decide +kernel
theorem dL_law_536 : decode cL_law 536 = .ok (.iconst 2, 1) := by decide +kernel
theorem dL_law_537 : decode cL_law 537 = .ok (.iadd, 1) := by decide +kernel
theorem dL_law_538 : decode cL_law 538 = .ok (.iaload, 1) := by decide +kernel
theorem dL_law_539 : decode cL_law 539 = .ok (.invokevirtual 42, 3) := by decide +kernel
theorem dL_law_542 : decode cL_law 542 = .ok (.aload_n 2, 1) := by decide +kernel
theorem dL_law_543 : decode cL_law 543 = .ok (.aload_n 0, 1) := by decide +kernel
theorem dL_law_544 : decode cL_law 544 = .ok (.iload_n 3, 1) := by decide +kernel
theorem dL_law_545 : decode cL_law 545 = .ok (.iconst 1, 1) := by decide +kernel
theorem dL_law_546 : decode cL_law 546 = .ok (.iadd, 1) := by decide +kernel
theorem dL_law_547 : decode cL_law 547 = .ok (.iaload, 1) := by decide +kernel
theorem dL_law_548 : decode cL_law 548 = .ok (.aload_n 0, 1) := by decide +kernel
theorem dL_law_549 : decode cL_law 549 = .ok (.iload_n 3, 1) := by decide +kernel
theorem dL_law_550 : decode cL_law 550 = .ok (.iconst 2, 1) := by decide +kernel
theorem dL_law_551 : decode cL_law 551 = .ok (.iadd, 1) := by decide +kernel
theorem dL_law_552 : decode cL_law 552 = .ok (.iaload, 1) := by decide +kernel
theorem dL_law_553 : decode cL_law 553 = .ok (.invokevirtual 45, 3) := by decide +kernel
theorem dL_law_556 : decode cL_law 556 = .ok (.if_icmp .eq 1345, 3) := by decide +kernel
theorem dL_law_559 : decode cL_law 559 = .ok (.iconst 0, 1) := by decide +kernel
theorem dL_law_560 : decode cL_law 560 = .ok (.ireturn, 1) := by decide +kernel
theorem dL_law_561 : decode cL_law 561 = .ok (.aload_n 1, 1) := by decide +kernel
theorem dL_law_562 : decode cL_law 562 = .ok (.aload_n 0, 1) := by decide +kernel
theorem dL_law_563 : decode cL_law 563 = .ok (.iload_n 3, 1) := by decide +kernel
theorem dL_law_564 : decode cL_law 564 = .ok (.iconst 1, 1) := by decide +kernel
theorem dL_law_565 : decode cL_law 565 = .ok (.iadd, 1) := by decide +kernel
theorem dL_law_566 : decode cL_law 566 = .ok (.iaload, 1) := by decide +kernel
theorem dL_law_567 : decode cL_law 567 = .ok (.invokevirtual 46, 3) := by decide +kernel
theorem dL_law_570 : decode cL_law 570 = .ok (.aload_n 2, 1) := by decide +kernel
theorem dL_law_571 : decode cL_law 571 = .ok (.aload_n 0, 1) := by decide +kernel
theorem dL_law_572 : decode cL_law 572 = .ok (.iload_n 3, 1) := by decide +kernel
theorem dL_law_573 : decode cL_law 573 = .ok (.iconst 1, 1) := by decide +kernel
theorem dL_law_574 : decode cL_law 574 = .ok (.iadd, 1) := by decide +kernel
theorem dL_law_575 : decode cL_law 575 = .ok (.iaload, 1) := by decide +kernel
theorem dL_law_576 : decode cL_law 576 = .ok (.invokevirtual 49, 3) := by decide +kernel
theorem dL_law_579 : decode cL_law 579 = .ok (.if_icmp .eq 1322, 3) := by decide +kernel
theorem dL_law_582 : decode cL_law 582 = .ok (.iconst 0, 1) := by decide +kernel
theorem dL_law_583 : decode cL_law 583 = .ok (.ireturn, 1) := by decide +kernel
theorem dL_law_584 : decode cL_law 584 = .ok (.aload_n 1, 1) := by decide +kernel
theorem dL_law_585 : decode cL_law 585 = .ok (.invokevirtual 50, 3) := by decide +kernel
theorem dL_law_588 : decode cL_law 588 = .ok (.aload_n 2, 1) := by decide +kernel
theorem dL_law_589 : decode cL_law 589 = .ok (.invokevirtual 54, 3) := by decide +kernel
theorem dL_law_592 : decode cL_law 592 = .ok (.if_icmp .eq 1309, 3) := by decide +kernel
theorem dL_law_595 : decode cL_law 595 = .ok (.iconst 0, 1) := by decide +kernel
theorem dL_law_596 : decode cL_law 596 = .ok (.ireturn, 1) := by decide +kernel
theorem dL_law_597 : decode cL_law 597 = .ok (.aload_n 1, 1) := by decide +kernel
theorem dL_law_598 : decode cL_law 598 = .ok (.aload_n 0, 1) := by decide +kernel
theorem dL_law_599 : decode cL_law 599 = .ok (.iload_n 3, 1) := by decide +kernel
theorem dL_law_600 : decode cL_law 600 = .ok (.iconst 1, 1) := by decide +kernel
theorem dL_law_601 : decode cL_law 601 = .ok (.iadd, 1) := by decide +kernel
theorem dL_law_602 : decode cL_law 602 = .ok (.iaload, 1) := by decide +kernel
theorem dL_law_603 : decode cL_law 603 = .ok (.invokevirtual 55, 3) := by decide +kernel
theorem dL_law_606 : decode cL_law 606 = .ok (.aload_n 2, 1) := by decide +kernel
theorem dL_law_607 : decode cL_law 607 = .ok (.aload_n 0, 1) := by decide +kernel
theorem dL_law_608 : decode cL_law 608 = .ok (.iload_n 3, 1) := by decide +kernel
theorem dL_law_609 : decode cL_law 609 = .ok (.iconst 1, 1) := by decide +kernel
theorem dL_law_610 : decode cL_law 610 = .ok (.iadd, 1) := by decide +kernel
theorem dL_law_611 : decode cL_law 611 = .ok (.iaload, 1) := by decide +kernel
theorem dL_law_612 : decode cL_law 612 = .ok (.invokevirtual 58, 3) := by decide +kernel
theorem dL_law_615 : decode cL_law 615 = .ok (.if_icmp .eq 1286, 3) := by decide +kernel
theorem dL_law_618 : decode cL_law 618 = .ok (.iconst 0, 1) := by decide +kernel
theorem dL_law_619 : decode cL_law 619 = .ok (.ireturn, 1) := by decide +kernel
theorem dL_law_620 : decode cL_law 620 = .ok (.aload_n 1, 1) := by decide +kernel
theorem dL_law_621 : decode cL_law 621 = .ok (.aload_n 0, 1) := by decide +kernel
theorem dL_law_622 : decode cL_law 622 = .ok (.iload_n 3, 1) := by decide +kernel
theorem dL_law_623 : decode cL_law 623 = .ok (.iconst 1, 1) := by decide +kernel
theorem dL_law_624 : decode cL_law 624 = .ok (.iadd, 1) := by decide +kernel
theorem dL_law_625 : decode cL_law 625 = .ok (.iaload, 1) := by decide +kernel
theorem dL_law_626 : decode cL_law 626 = .ok (.aload_n 0, 1) := by decide +kernel
theorem dL_law_627 : decode cL_law 627 = .ok (.iload_n 3, 1) := by decide +kernel
theorem dL_law_628 : decode cL_law 628 = .ok (.iconst 2, 1) := by decide +kernel
theorem dL_law_629 : decode cL_law 629 = .ok (.iadd, 1) := by decide +kernel
theorem dL_law_630 : decode cL_law 630 = .ok (.iaload, 1) := by decide +kernel
theorem dL_law_631 : decode cL_law 631 = .ok (.invokevirtual 59, 3) := by decide +kernel
theorem dL_law_634 : decode cL_law 634 = .ok (.aload_n 2, 1) := by decide +kernel
theorem dL_law_635 : decode cL_law 635 = .ok (.aload_n 0, 1) := by decide +kernel
theorem dL_law_636 : decode cL_law 636 = .ok (.iload_n 3, 1) := by decide +kernel
theorem dL_law_637 : decode cL_law 637 = .ok (.iconst 1, 1) := by decide +kernel
theorem dL_law_638 : decode cL_law 638 = .ok (.iadd, 1) := by decide +kernel
theorem dL_law_639 : decode cL_law 639 = .ok (.iaload, 1) := by decide +kernel
theorem dL_law_640 : decode cL_law 640 = .ok (.aload_n 0, 1) := by decide +kernel
theorem dL_law_641 : decode cL_law 641 = .ok (.iload_n 3, 1) := by decide +kernel
theorem dL_law_642 : decode cL_law 642 = .ok (.iconst 2, 1) := by decide +kernel
theorem dL_law_643 : decode cL_law 643 = .ok (.iadd, 1) := by decide +kernel
theorem dL_law_644 : decode cL_law 644 = .ok (.iaload, 1) := by decide +kernel
theorem dL_law_645 : decode cL_law 645 = .ok (.invokevirtual 62, 3) := by decide +kernel
theorem dL_law_648 : decode cL_law 648 = .ok (.if_icmp .eq 1253, 3) := by decide +kernel
theorem dL_law_651 : decode cL_law 651 = .ok (.iconst 0, 1) := by decide +kernel
theorem dL_law_652 : decode cL_law 652 = .ok (.ireturn, 1) := by decide +kernel
theorem dL_law_653 : decode cL_law 653 = .ok (.aload_n 1, 1) := by decide +kernel
theorem dL_law_654 : decode cL_law 654 = .ok (.aload_n 0, 1) := by decide +kernel
theorem dL_law_655 : decode cL_law 655 = .ok (.iload_n 3, 1) := by decide +kernel
theorem dL_law_656 : decode cL_law 656 = .ok (.iconst 1, 1) := by decide +kernel
theorem dL_law_657 : decode cL_law 657 = .ok (.iadd, 1) := by decide +kernel
theorem dL_law_658 : decode cL_law 658 = .ok (.iaload, 1) := by decide +kernel
theorem dL_law_659 : decode cL_law 659 = .ok (.invokevirtual 63, 3) := by decide +kernel
theorem dL_law_662 : decode cL_law 662 = .ok (.aload_n 2, 1) := by decide +kernel
theorem dL_law_663 : decode cL_law 663 = .ok (.aload_n 0, 1) := by decide +kernel
theorem dL_law_664 : decode cL_law 664 = .ok (.iload_n 3, 1) := by decide +kernel
theorem dL_law_665 : decode cL_law 665 = .ok (.iconst 1, 1) := by decide +kernel
theorem dL_law_666 : decode cL_law 666 = .ok (.iadd, 1) := by decide +kernel
theorem dL_law_667 : decode cL_law 667 = .ok (.iaload, 1) := by decide +kernel
theorem dL_law_668 : decode cL_law 668 = .ok (.invokevirtual 66, 3) := by decide +kernel
theorem dL_law_671 : decode cL_law 671 = .ok (.if_icmp .eq 1230, 3) := by decide +kernel
theorem dL_law_674 : decode cL_law 674 = .ok (.iconst 0, 1) := by decide +kernel
theorem dL_law_675 : decode cL_law 675 = .ok (.ireturn, 1) := by decide +kernel
theorem dL_law_676 : decode cL_law 676 = .ok (.aload_n 1, 1) := by decide +kernel
theorem dL_law_677 : decode cL_law 677 = .ok (.aload_n 0, 1) := by decide +kernel
theorem dL_law_678 : decode cL_law 678 = .ok (.iload_n 3, 1) := by decide +kernel
theorem dL_law_679 : decode cL_law 679 = .ok (.iconst 1, 1) := by decide +kernel
theorem dL_law_680 : decode cL_law 680 = .ok (.iadd, 1) := by decide +kernel
theorem dL_law_681 : decode cL_law 681 = .ok (.iaload, 1) := by decide +kernel
theorem dL_law_682 : decode cL_law 682 = .ok (.aload_n 0, 1) := by decide +kernel
theorem dL_law_683 : decode cL_law 683 = .ok (.iload_n 3, 1) := by decide +kernel
theorem dL_law_684 : decode cL_law 684 = .ok (.iconst 2, 1) := by decide +kernel
theorem dL_law_685 : decode cL_law 685 = .ok (.iadd, 1) := by decide +kernel
theorem dL_law_686 : decode cL_law 686 = .ok (.iaload, 1) := by decide +kernel
theorem dL_law_687 : decode cL_law 687 = .ok (.aload_n 0, 1) := by decide +kernel
theorem dL_law_688 : decode cL_law 688 = .ok (.iload_n 3, 1) := by decide +kernel
theorem dL_law_689 : decode cL_law 689 = .ok (.iconst 3, 1) := by decide +kernel
theorem dL_law_690 : decode cL_law 690 = .ok (.iadd, 1) := by decide +kernel
theorem dL_law_691 : decode cL_law 691 = .ok (.iaload, 1) := by decide +kernel
theorem dL_law_692 : decode cL_law 692 = .ok (.aload_n 0, 1) := by decide +kernel
theorem dL_law_693 : decode cL_law 693 = .ok (.iload_n 3, 1) := by decide +kernel
theorem dL_law_694 : decode cL_law 694 = .ok (.iconst 4, 1) := by decide +kernel
theorem dL_law_695 : decode cL_law 695 = .ok (.iadd, 1) := by decide +kernel
theorem dL_law_696 : decode cL_law 696 = .ok (.iaload, 1) := by decide +kernel
theorem dL_law_697 : decode cL_law 697 = .ok (.aload_n 0, 1) := by decide +kernel
theorem dL_law_698 : decode cL_law 698 = .ok (.iload_n 3, 1) := by decide +kernel
theorem dL_law_699 : decode cL_law 699 = .ok (.iconst 5, 1) := by decide +kernel
theorem dL_law_700 : decode cL_law 700 = .ok (.iadd, 1) := by decide +kernel
theorem dL_law_701 : decode cL_law 701 = .ok (.iaload, 1) := by decide +kernel
theorem dL_law_702 : decode cL_law 702 = .ok (.aload_n 0, 1) := by decide +kernel
theorem dL_law_703 : decode cL_law 703 = .ok (.iload_n 3, 1) := by decide +kernel
theorem dL_law_704 : decode cL_law 704 = .ok (.bipush 6, 2) := by decide +kernel
theorem dL_law_706 : decode cL_law 706 = .ok (.iadd, 1) := by decide +kernel
theorem dL_law_707 : decode cL_law 707 = .ok (.iaload, 1) := by decide +kernel
theorem dL_law_708 : decode cL_law 708 = .ok (.aload_n 0, 1) := by decide +kernel
theorem dL_law_709 : decode cL_law 709 = .ok (.iload_n 3, 1) := by decide +kernel
theorem dL_law_710 : decode cL_law 710 = .ok (.bipush 7, 2) := by decide +kernel
theorem dL_law_712 : decode cL_law 712 = .ok (.iadd, 1) := by decide +kernel
theorem dL_law_713 : decode cL_law 713 = .ok (.iaload, 1) := by decide +kernel
theorem dL_law_714 : decode cL_law 714 = .ok (.aload_n 0, 1) := by decide +kernel
theorem dL_law_715 : decode cL_law 715 = .ok (.iload_n 3, 1) := by decide +kernel
theorem dL_law_716 : decode cL_law 716 = .ok (.bipush 8, 2) := by decide +kernel
theorem dL_law_718 : decode cL_law 718 = .ok (.iadd, 1) := by decide +kernel
theorem dL_law_719 : decode cL_law 719 = .ok (.iaload, 1) := by decide +kernel
theorem dL_law_720 : decode cL_law 720 = .ok (.aload_n 0, 1) := by decide +kernel
theorem dL_law_721 : decode cL_law 721 = .ok (.iload_n 3, 1) := by decide +kernel
theorem dL_law_722 : decode cL_law 722 = .ok (.bipush 9, 2) := by decide +kernel
theorem dL_law_724 : decode cL_law 724 = .ok (.iadd, 1) := by decide +kernel
theorem dL_law_725 : decode cL_law 725 = .ok (.iaload, 1) := by decide +kernel
theorem dL_law_726 : decode cL_law 726 = .ok (.invokevirtual 67, 3) := by decide +kernel
theorem dL_law_729 : decode cL_law 729 = .ok (.aload_n 2, 1) := by decide +kernel
theorem dL_law_730 : decode cL_law 730 = .ok (.aload_n 0, 1) := by decide +kernel
theorem dL_law_731 : decode cL_law 731 = .ok (.iload_n 3, 1) := by decide +kernel
theorem dL_law_732 : decode cL_law 732 = .ok (.iconst 1, 1) := by decide +kernel
theorem dL_law_733 : decode cL_law 733 = .ok (.iadd, 1) := by decide +kernel
theorem dL_law_734 : decode cL_law 734 = .ok (.iaload, 1) := by decide +kernel
theorem dL_law_735 : decode cL_law 735 = .ok (.aload_n 0, 1) := by decide +kernel
theorem dL_law_736 : decode cL_law 736 = .ok (.iload_n 3, 1) := by decide +kernel
theorem dL_law_737 : decode cL_law 737 = .ok (.iconst 2, 1) := by decide +kernel
theorem dL_law_738 : decode cL_law 738 = .ok (.iadd, 1) := by decide +kernel
theorem dL_law_739 : decode cL_law 739 = .ok (.iaload, 1) := by decide +kernel
theorem dL_law_740 : decode cL_law 740 = .ok (.aload_n 0, 1) := by decide +kernel
theorem dL_law_741 : decode cL_law 741 = .ok (.iload_n 3, 1) := by decide +kernel
theorem dL_law_742 : decode cL_law 742 = .ok (.iconst 3, 1) := by decide +kernel
theorem dL_law_743 : decode cL_law 743 = .ok (.iadd, 1) := by decide +kernel
theorem dL_law_744 : decode cL_law 744 = .ok (.iaload, 1) := by decide +kernel
theorem dL_law_745 : decode cL_law 745 = .ok (.aload_n 0, 1) := by decide +kernel
theorem dL_law_746 : decode cL_law 746 = .ok (.iload_n 3, 1) := by decide +kernel
theorem dL_law_747 : decode cL_law 747 = .ok (.iconst 4, 1) := by decide +kernel
theorem dL_law_748 : decode cL_law 748 = .ok (.iadd, 1) := by decide +kernel
theorem dL_law_749 : decode cL_law 749 = .ok (.iaload, 1) := by decide +kernel
theorem dL_law_750 : decode cL_law 750 = .ok (.aload_n 0, 1) := by decide +kernel
theorem dL_law_751 : decode cL_law 751 = .ok (.iload_n 3, 1) := by decide +kernel
theorem dL_law_752 : decode cL_law 752 = .ok (.iconst 5, 1) := by decide +kernel
theorem dL_law_753 : decode cL_law 753 = .ok (.iadd, 1) := by decide +kernel
theorem dL_law_754 : decode cL_law 754 = .ok (.iaload, 1) := by decide +kernel
theorem dL_law_755 : decode cL_law 755 = .ok (.aload_n 0, 1) := by decide +kernel
theorem dL_law_756 : decode cL_law 756 = .ok (.iload_n 3, 1) := by decide +kernel
theorem dL_law_757 : decode cL_law 757 = .ok (.bipush 6, 2) := by decide +kernel
theorem dL_law_759 : decode cL_law 759 = .ok (.iadd, 1) := by decide +kernel
theorem dL_law_760 : decode cL_law 760 = .ok (.iaload, 1) := by decide +kernel
theorem dL_law_761 : decode cL_law 761 = .ok (.aload_n 0, 1) := by decide +kernel
theorem dL_law_762 : decode cL_law 762 = .ok (.iload_n 3, 1) := by decide +kernel
theorem dL_law_763 : decode cL_law 763 = .ok (.bipush 7, 2) := by decide +kernel
theorem dL_law_765 : decode cL_law 765 = .ok (.iadd, 1) := by decide +kernel
theorem dL_law_766 : decode cL_law 766 = .ok (.iaload, 1) := by decide +kernel
theorem dL_law_767 : decode cL_law 767 = .ok (.aload_n 0, 1) := by decide +kernel
theorem dL_law_768 : decode cL_law 768 = .ok (.iload_n 3, 1) := by decide +kernel
theorem dL_law_769 : decode cL_law 769 = .ok (.bipush 8, 2) := by decide +kernel
theorem dL_law_771 : decode cL_law 771 = .ok (.iadd, 1) := by decide +kernel
theorem dL_law_772 : decode cL_law 772 = .ok (.iaload, 1) := by decide +kernel
theorem dL_law_773 : decode cL_law 773 = .ok (.aload_n 0, 1) := by decide +kernel
theorem dL_law_774 : decode cL_law 774 = .ok (.iload_n 3, 1) := by decide +kernel
theorem dL_law_775 : decode cL_law 775 = .ok (.bipush 9, 2) := by decide +kernel
theorem dL_law_777 : decode cL_law 777 = .ok (.iadd, 1) := by decide +kernel
theorem dL_law_778 : decode cL_law 778 = .ok (.iaload, 1) := by decide +kernel
theorem dL_law_779 : decode cL_law 779 = .ok (.invokevirtual 71, 3) := by decide +kernel
theorem dL_law_782 : decode cL_law 782 = .ok (.if_icmp .eq 1119, 3) := by decide +kernel
theorem dL_law_785 : decode cL_law 785 = .ok (.iconst 0, 1) := by decide +kernel
theorem dL_law_786 : decode cL_law 786 = .ok (.ireturn, 1) := by decide +kernel
theorem dL_law_787 : decode cL_law 787 = .ok (.aload_n 1, 1) := by decide +kernel
theorem dL_law_788 : decode cL_law 788 = .ok (.aload_n 0, 1) := by decide +kernel
theorem dL_law_789 : decode cL_law 789 = .ok (.iload_n 3, 1) := by decide +kernel
theorem dL_law_790 : decode cL_law 790 = .ok (.iconst 1, 1) := by decide +kernel
theorem dL_law_791 : decode cL_law 791 = .ok (.iadd, 1) := by decide +kernel
theorem dL_law_792 : decode cL_law 792 = .ok (.iaload, 1) := by decide +kernel
theorem dL_law_793 : decode cL_law 793 = .ok (.aload_n 0, 1) := by decide +kernel
theorem dL_law_794 : decode cL_law 794 = .ok (.iload_n 3, 1) := by decide +kernel
theorem dL_law_795 : decode cL_law 795 = .ok (.iconst 2, 1) := by decide +kernel
theorem dL_law_796 : decode cL_law 796 = .ok (.iadd, 1) := by decide +kernel
theorem dL_law_797 : decode cL_law 797 = .ok (.iaload, 1) := by decide +kernel
theorem dL_law_798 : decode cL_law 798 = .ok (.aload_n 0, 1) := by decide +kernel
theorem dL_law_799 : decode cL_law 799 = .ok (.iload_n 3, 1) := by decide +kernel
theorem dL_law_800 : decode cL_law 800 = .ok (.iconst 3, 1) := by decide +kernel
theorem dL_law_801 : decode cL_law 801 = .ok (.iadd, 1) := by decide +kernel
theorem dL_law_802 : decode cL_law 802 = .ok (.iaload, 1) := by decide +kernel
theorem dL_law_803 : decode cL_law 803 = .ok (.invokevirtual 72, 3) := by decide +kernel
theorem dL_law_806 : decode cL_law 806 = .ok (.aload_n 2, 1) := by decide +kernel
theorem dL_law_807 : decode cL_law 807 = .ok (.aload_n 0, 1) := by decide +kernel
theorem dL_law_808 : decode cL_law 808 = .ok (.iload_n 3, 1) := by decide +kernel
theorem dL_law_809 : decode cL_law 809 = .ok (.iconst 1, 1) := by decide +kernel
theorem dL_law_810 : decode cL_law 810 = .ok (.iadd, 1) := by decide +kernel
theorem dL_law_811 : decode cL_law 811 = .ok (.iaload, 1) := by decide +kernel
theorem dL_law_812 : decode cL_law 812 = .ok (.aload_n 0, 1) := by decide +kernel
theorem dL_law_813 : decode cL_law 813 = .ok (.iload_n 3, 1) := by decide +kernel
theorem dL_law_814 : decode cL_law 814 = .ok (.iconst 2, 1) := by decide +kernel
theorem dL_law_815 : decode cL_law 815 = .ok (.iadd, 1) := by decide +kernel
theorem dL_law_816 : decode cL_law 816 = .ok (.iaload, 1) := by decide +kernel
theorem dL_law_817 : decode cL_law 817 = .ok (.aload_n 0, 1) := by decide +kernel
theorem dL_law_818 : decode cL_law 818 = .ok (.iload_n 3, 1) := by decide +kernel
theorem dL_law_819 : decode cL_law 819 = .ok (.iconst 3, 1) := by decide +kernel
theorem dL_law_820 : decode cL_law 820 = .ok (.iadd, 1) := by decide +kernel
theorem dL_law_821 : decode cL_law 821 = .ok (.iaload, 1) := by decide +kernel
theorem dL_law_822 : decode cL_law 822 = .ok (.invokevirtual 76, 3) := by decide +kernel
theorem dL_law_825 : decode cL_law 825 = .ok (.if_icmp .eq 1076, 3) := by decide +kernel
theorem dL_law_828 : decode cL_law 828 = .ok (.iconst 0, 1) := by decide +kernel
theorem dL_law_829 : decode cL_law 829 = .ok (.ireturn, 1) := by decide +kernel
theorem dL_law_830 : decode cL_law 830 = .ok (.aload_n 1, 1) := by decide +kernel
theorem dL_law_831 : decode cL_law 831 = .ok (.aload_n 0, 1) := by decide +kernel
theorem dL_law_832 : decode cL_law 832 = .ok (.iload_n 3, 1) := by decide +kernel
theorem dL_law_833 : decode cL_law 833 = .ok (.iconst 1, 1) := by decide +kernel
theorem dL_law_834 : decode cL_law 834 = .ok (.iadd, 1) := by decide +kernel
theorem dL_law_835 : decode cL_law 835 = .ok (.iaload, 1) := by decide +kernel
theorem dL_law_836 : decode cL_law 836 = .ok (.aload_n 0, 1) := by decide +kernel
theorem dL_law_837 : decode cL_law 837 = .ok (.iload_n 3, 1) := by decide +kernel
theorem dL_law_838 : decode cL_law 838 = .ok (.iconst 2, 1) := by decide +kernel
theorem dL_law_839 : decode cL_law 839 = .ok (.iadd, 1) := by decide +kernel
theorem dL_law_840 : decode cL_law 840 = .ok (.iaload, 1) := by decide +kernel
theorem dL_law_841 : decode cL_law 841 = .ok (.invokevirtual 77, 3) := by decide +kernel
theorem dL_law_844 : decode cL_law 844 = .ok (.aload_n 2, 1) := by decide +kernel
theorem dL_law_845 : decode cL_law 845 = .ok (.aload_n 0, 1) := by decide +kernel
theorem dL_law_846 : decode cL_law 846 = .ok (.iload_n 3, 1) := by decide +kernel
theorem dL_law_847 : decode cL_law 847 = .ok (.iconst 1, 1) := by decide +kernel
theorem dL_law_848 : decode cL_law 848 = .ok (.iadd, 1) := by decide +kernel
theorem dL_law_849 : decode cL_law 849 = .ok (.iaload, 1) := by decide +kernel
theorem dL_law_850 : decode cL_law 850 = .ok (.aload_n 0, 1) := by decide +kernel
theorem dL_law_851 : decode cL_law 851 = .ok (.iload_n 3, 1) := by decide +kernel
theorem dL_law_852 : decode cL_law 852 = .ok (.iconst 2, 1) := by decide +kernel
theorem dL_law_853 : decode cL_law 853 = .ok (.iadd, 1) := by decide +kernel
theorem dL_law_854 : decode cL_law 854 = .ok (.iaload, 1) := by decide +kernel
theorem dL_law_855 : decode cL_law 855 = .ok (.invokevirtual 80, 3) := by decide +kernel
theorem dL_law_858 : decode cL_law 858 = .ok (.if_icmp .eq 1043, 3) := by decide +kernel
theorem dL_law_861 : decode cL_law 861 = .ok (.iconst 0, 1) := by decide +kernel
theorem dL_law_862 : decode cL_law 862 = .ok (.ireturn, 1) := by decide +kernel
theorem dL_law_863 : decode cL_law 863 = .ok (.aload_n 1, 1) := by decide +kernel
theorem dL_law_864 : decode cL_law 864 = .ok (.aload_n 0, 1) := by decide +kernel
theorem dL_law_865 : decode cL_law 865 = .ok (.iload_n 3, 1) := by decide +kernel
theorem dL_law_866 : decode cL_law 866 = .ok (.iconst 1, 1) := by decide +kernel
theorem dL_law_867 : decode cL_law 867 = .ok (.iadd, 1) := by decide +kernel
theorem dL_law_868 : decode cL_law 868 = .ok (.iaload, 1) := by decide +kernel
theorem dL_law_869 : decode cL_law 869 = .ok (.aload_n 0, 1) := by decide +kernel
theorem dL_law_870 : decode cL_law 870 = .ok (.iload_n 3, 1) := by decide +kernel
theorem dL_law_871 : decode cL_law 871 = .ok (.iconst 2, 1) := by decide +kernel
theorem dL_law_872 : decode cL_law 872 = .ok (.iadd, 1) := by decide +kernel
theorem dL_law_873 : decode cL_law 873 = .ok (.iaload, 1) := by decide +kernel
theorem dL_law_874 : decode cL_law 874 = .ok (.invokevirtual 81, 3) := by decide +kernel
theorem dL_law_877 : decode cL_law 877 = .ok (.aload_n 2, 1) := by decide +kernel
theorem dL_law_878 : decode cL_law 878 = .ok (.aload_n 0, 1) := by decide +kernel
theorem dL_law_879 : decode cL_law 879 = .ok (.iload_n 3, 1) := by decide +kernel
theorem dL_law_880 : decode cL_law 880 = .ok (.iconst 1, 1) := by decide +kernel
theorem dL_law_881 : decode cL_law 881 = .ok (.iadd, 1) := by decide +kernel
theorem dL_law_882 : decode cL_law 882 = .ok (.iaload, 1) := by decide +kernel
theorem dL_law_883 : decode cL_law 883 = .ok (.aload_n 0, 1) := by decide +kernel
theorem dL_law_884 : decode cL_law 884 = .ok (.iload_n 3, 1) := by decide +kernel
theorem dL_law_885 : decode cL_law 885 = .ok (.iconst 2, 1) := by decide +kernel
theorem dL_law_886 : decode cL_law 886 = .ok (.iadd, 1) := by decide +kernel
theorem dL_law_887 : decode cL_law 887 = .ok (.iaload, 1) := by decide +kernel
theorem dL_law_888 : decode cL_law 888 = .ok (.invokevirtual 84, 3) := by decide +kernel
theorem dL_law_891 : decode cL_law 891 = .ok (.if_icmp .eq 1010, 3) := by decide +kernel
theorem dL_law_894 : decode cL_law 894 = .ok (.iconst 0, 1) := by decide +kernel
theorem dL_law_895 : decode cL_law 895 = .ok (.ireturn, 1) := by decide +kernel
theorem dL_law_896 : decode cL_law 896 = .ok (.aload_n 1, 1) := by decide +kernel
theorem dL_law_897 : decode cL_law 897 = .ok (.aload_n 0, 1) := by decide +kernel
theorem dL_law_898 : decode cL_law 898 = .ok (.iload_n 3, 1) := by decide +kernel
theorem dL_law_899 : decode cL_law 899 = .ok (.iconst 1, 1) := by decide +kernel
theorem dL_law_900 : decode cL_law 900 = .ok (.iadd, 1) := by decide +kernel
theorem dL_law_901 : decode cL_law 901 = .ok (.iaload, 1) := by decide +kernel
theorem dL_law_902 : decode cL_law 902 = .ok (.invokevirtual 85, 3) := by decide +kernel
theorem dL_law_905 : decode cL_law 905 = .ok (.aload_n 2, 1) := by decide +kernel
theorem dL_law_906 : decode cL_law 906 = .ok (.aload_n 0, 1) := by decide +kernel
theorem dL_law_907 : decode cL_law 907 = .ok (.iload_n 3, 1) := by decide +kernel
theorem dL_law_908 : decode cL_law 908 = .ok (.iconst 1, 1) := by decide +kernel
theorem dL_law_909 : decode cL_law 909 = .ok (.iadd, 1) := by decide +kernel
theorem dL_law_910 : decode cL_law 910 = .ok (.iaload, 1) := by decide +kernel
theorem dL_law_911 : decode cL_law 911 = .ok (.invokevirtual 88, 3) := by decide +kernel
theorem dL_law_914 : decode cL_law 914 = .ok (.if_icmp .eq 987, 3) := by decide +kernel
theorem dL_law_917 : decode cL_law 917 = .ok (.iconst 0, 1) := by decide +kernel
theorem dL_law_918 : decode cL_law 918 = .ok (.ireturn, 1) := by decide +kernel
theorem dL_law_919 : decode cL_law 919 = .ok (.aload_n 1, 1) := by decide +kernel
theorem dL_law_920 : decode cL_law 920 = .ok (.aload_n 0, 1) := by decide +kernel
theorem dL_law_921 : decode cL_law 921 = .ok (.iload_n 3, 1) := by decide +kernel
theorem dL_law_922 : decode cL_law 922 = .ok (.iconst 1, 1) := by decide +kernel
theorem dL_law_923 : decode cL_law 923 = .ok (.iadd, 1) := by decide +kernel
theorem dL_law_924 : decode cL_law 924 = .ok (.iaload, 1) := by decide +kernel
theorem dL_law_925 : decode cL_law 925 = .ok (.aload_n 0, 1) := by decide +kernel
theorem dL_law_926 : decode cL_law 926 = .ok (.iload_n 3, 1) := by decide +kernel
theorem dL_law_927 : decode cL_law 927 = .ok (.iconst 2, 1) := by decide +kernel
theorem dL_law_928 : decode cL_law 928 = .ok (.iadd, 1) := by decide +kernel
theorem dL_law_929 : decode cL_law 929 = .ok (.iaload, 1) := by decide +kernel
theorem dL_law_930 : decode cL_law 930 = .ok (.invokevirtual 89, 3) := by decide +kernel
theorem dL_law_933 : decode cL_law 933 = .ok (.aload_n 2, 1) := by decide +kernel
theorem dL_law_934 : decode cL_law 934 = .ok (.aload_n 0, 1) := by decide +kernel
theorem dL_law_935 : decode cL_law 935 = .ok (.iload_n 3, 1) := by decide +kernel
theorem dL_law_936 : decode cL_law 936 = .ok (.iconst 1, 1) := by decide +kernel
theorem dL_law_937 : decode cL_law 937 = .ok (.iadd, 1) := by decide +kernel
theorem dL_law_938 : decode cL_law 938 = .ok (.iaload, 1) := by decide +kernel
theorem dL_law_939 : decode cL_law 939 = .ok (.aload_n 0, 1) := by decide +kernel
theorem dL_law_940 : decode cL_law 940 = .ok (.iload_n 3, 1) := by decide +kernel
theorem dL_law_941 : decode cL_law 941 = .ok (.iconst 2, 1) := by decide +kernel
theorem dL_law_942 : decode cL_law 942 = .ok (.iadd, 1) := by decide +kernel
theorem dL_law_943 : decode cL_law 943 = .ok (.iaload, 1) := by decide +kernel
theorem dL_law_944 : decode cL_law 944 = .ok (.invokevirtual 92, 3) := by decide +kernel
theorem dL_law_947 : decode cL_law 947 = .ok (.if_icmp .eq 954, 3) := by decide +kernel
theorem dL_law_950 : decode cL_law 950 = .ok (.iconst 0, 1) := by decide +kernel
theorem dL_law_951 : decode cL_law 951 = .ok (.ireturn, 1) := by decide +kernel
theorem dL_law_952 : decode cL_law 952 = .ok (.aload_n 1, 1) := by decide +kernel
theorem dL_law_953 : decode cL_law 953 = .ok (.aload_n 0, 1) := by decide +kernel
theorem dL_law_954 : decode cL_law 954 = .ok (.iload_n 3, 1) := by decide +kernel
theorem dL_law_955 : decode cL_law 955 = .ok (.iconst 1, 1) := by decide +kernel
theorem dL_law_956 : decode cL_law 956 = .ok (.iadd, 1) := by decide +kernel
theorem dL_law_957 : decode cL_law 957 = .ok (.iaload, 1) := by decide +kernel
theorem dL_law_958 : decode cL_law 958 = .ok (.invokevirtual 93, 3) := by decide +kernel
theorem dL_law_961 : decode cL_law 961 = .ok (.aload_n 2, 1) := by decide +kernel
theorem dL_law_962 : decode cL_law 962 = .ok (.aload_n 0, 1) := by decide +kernel
theorem dL_law_963 : decode cL_law 963 = .ok (.iload_n 3, 1) := by decide +kernel
theorem dL_law_964 : decode cL_law 964 = .ok (.iconst 1, 1) := by decide +kernel
theorem dL_law_965 : decode cL_law 965 = .ok (.iadd, 1) := by decide +kernel
theorem dL_law_966 : decode cL_law 966 = .ok (.iaload, 1) := by decide +kernel
theorem dL_law_967 : decode cL_law 967 = .ok (.invokevirtual 96, 3) := by decide +kernel
theorem dL_law_970 : decode cL_law 970 = .ok (.if_icmp .eq 931, 3) := by decide +kernel
theorem dL_law_973 : decode cL_law 973 = .ok (.iconst 0, 1) := by decide +kernel
theorem dL_law_974 : decode cL_law 974 = .ok (.ireturn, 1) := by decide +kernel
theorem dL_law_975 : decode cL_law 975 = .ok (.aload_n 1, 1) := by decide +kernel
theorem dL_law_976 : decode cL_law 976 = .ok (.aload_n 0, 1) := by decide +kernel
theorem dL_law_977 : decode cL_law 977 = .ok (.iload_n 3, 1) := by decide +kernel
theorem dL_law_978 : decode cL_law 978 = .ok (.iconst 1, 1) := by decide +kernel
theorem dL_law_979 : decode cL_law 979 = .ok (.iadd, 1) := by decide +kernel
theorem dL_law_980 : decode cL_law 980 = .ok (.iaload, 1) := by decide +kernel
theorem dL_law_981 : decode cL_law 981 = .ok (.invokevirtual 97, 3) := by decide +kernel
theorem dL_law_984 : decode cL_law 984 = .ok (.aload_n 2, 1) := by decide +kernel
theorem dL_law_985 : decode cL_law 985 = .ok (.aload_n 0, 1) := by decide +kernel
theorem dL_law_986 : decode cL_law 986 = .ok (.iload_n 3, 1) := by decide +kernel
theorem dL_law_987 : decode cL_law 987 = .ok (.iconst 1, 1) := by decide +kernel
theorem dL_law_988 : decode cL_law 988 = .ok (.iadd, 1) := by decide +kernel
theorem dL_law_989 : decode cL_law 989 = .ok (.iaload, 1) := by decide +kernel
theorem dL_law_990 : decode cL_law 990 = .ok (.invokevirtual 100, 3) := by decide +kernel
theorem dL_law_993 : decode cL_law 993 = .ok (.if_icmp .eq 908, 3) := by decide +kernel
theorem dL_law_996 : decode cL_law 996 = .ok (.iconst 0, 1) := by decide +kernel
theorem dL_law_997 : decode cL_law 997 = .ok (.ireturn, 1) := by decide +kernel
theorem dL_law_998 : decode cL_law 998 = .ok (.aload_n 1, 1) := by decide +kernel
theorem dL_law_999 : decode cL_law 999 = .ok (.aload_n 0, 1) := by decide +kernel
theorem dL_law_1000 : decode cL_law 1000 = .ok (.iload_n 3, 1) := by decide +kernel
theorem dL_law_1001 : decode cL_law 1001 = .ok (.iconst 1, 1) := by decide +kernel
theorem dL_law_1002 : decode cL_law 1002 = .ok (.iadd, 1) := by decide +kernel
theorem dL_law_1003 : decode cL_law 1003 = .ok (.iaload, 1) := by decide +kernel
theorem dL_law_1004 : decode cL_law 1004 = .ok (.aload_n 0, 1) := by decide +kernel
theorem dL_law_1005 : decode cL_law 1005 = .ok (.iload_n 3, 1) := by decide +kernel
theorem dL_law_1006 : decode cL_law 1006 = .ok (.iconst 2, 1) := by decide +kernel
theorem dL_law_1007 : decode cL_law 1007 = .ok (.iadd, 1) := by decide +kernel
theorem dL_law_1008 : decode cL_law 1008 = .ok (.iaload, 1) := by decide +kernel
theorem dL_law_1009 : decode cL_law 1009 = .ok (.invokevirtual 101, 3) := by decide +kernel
theorem dL_law_1012 : decode cL_law 1012 = .ok (.aload_n 2, 1) := by decide +kernel
theorem dL_law_1013 : decode cL_law 1013 = .ok (.aload_n 0, 1) := by decide +kernel
theorem dL_law_1014 : decode cL_law 1014 = .ok (.iload_n 3, 1) := by decide +kernel
theorem dL_law_1015 : decode cL_law 1015 = .ok (.iconst 1, 1) := by decide +kernel
theorem dL_law_1016 : decode cL_law 1016 = .ok (.iadd, 1) := by decide +kernel
theorem dL_law_1017 : decode cL_law 1017 = .ok (.iaload, 1) := by decide +kernel
theorem dL_law_1018 : decode cL_law 1018 = .ok (.aload_n 0, 1) := by decide +kernel
theorem dL_law_1019 : decode cL_law 1019 = .ok (.iload_n 3, 1) := by decide +kernel
theorem dL_law_1020 : decode cL_law 1020 = .ok (.iconst 2, 1) := by decide +kernel
theorem dL_law_1021 : decode cL_law 1021 = .ok (.iadd, 1) := by decide +kernel
theorem dL_law_1022 : decode cL_law 1022 = .ok (.iaload, 1) := by decide +kernel
theorem dL_law_1023 : decode cL_law 1023 = .ok (.invokevirtual 104, 3) := by decide +kernel
theorem dL_law_1026 : decode cL_law 1026 = .ok (.if_icmp .eq 875, 3) := by decide +kernel
theorem dL_law_1029 : decode cL_law 1029 = .ok (.iconst 0, 1) := by decide +kernel
theorem dL_law_1030 : decode cL_law 1030 = .ok (.ireturn, 1) := by decide +kernel
theorem dL_law_1031 : decode cL_law 1031 = .ok (.aload_n 1, 1) := by decide +kernel
theorem dL_law_1032 : decode cL_law 1032 = .ok (.aload_n 0, 1) := by decide +kernel
theorem dL_law_1033 : decode cL_law 1033 = .ok (.iload_n 3, 1) := by decide +kernel
theorem dL_law_1034 : decode cL_law 1034 = .ok (.iconst 1, 1) := by decide +kernel
theorem dL_law_1035 : decode cL_law 1035 = .ok (.iadd, 1) := by decide +kernel
theorem dL_law_1036 : decode cL_law 1036 = .ok (.iaload, 1) := by decide +kernel
theorem dL_law_1037 : decode cL_law 1037 = .ok (.invokevirtual 105, 3) := by decide +kernel
theorem dL_law_1040 : decode cL_law 1040 = .ok (.aload_n 2, 1) := by decide +kernel
theorem dL_law_1041 : decode cL_law 1041 = .ok (.aload_n 0, 1) := by decide +kernel
theorem dL_law_1042 : decode cL_law 1042 = .ok (.iload_n 3, 1) := by decide +kernel
theorem dL_law_1043 : decode cL_law 1043 = .ok (.iconst 1, 1) := by decide +kernel
theorem dL_law_1044 : decode cL_law 1044 = .ok (.iadd, 1) := by decide +kernel
theorem dL_law_1045 : decode cL_law 1045 = .ok (.iaload, 1) := by decide +kernel
theorem dL_law_1046 : decode cL_law 1046 = .ok (.invokevirtual 108, 3) := by decide +kernel
theorem dL_law_1049 : decode cL_law 1049 = .ok (.if_icmp .eq 852, 3) := by decide +kernel
theorem dL_law_1052 : decode cL_law 1052 = .ok (.iconst 0, 1) := by decide +kernel
theorem dL_law_1053 : decode cL_law 1053 = .ok (.ireturn, 1) := by decide +kernel
theorem dL_law_1054 : decode cL_law 1054 = .ok (.aload_n 1, 1) := by decide +kernel
theorem dL_law_1055 : decode cL_law 1055 = .ok (.aload_n 0, 1) := by decide +kernel
theorem dL_law_1056 : decode cL_law 1056 = .ok (.iload_n 3, 1) := by decide +kernel
theorem dL_law_1057 : decode cL_law 1057 = .ok (.iconst 1, 1) := by decide +kernel
theorem dL_law_1058 : decode cL_law 1058 = .ok (.iadd, 1) := by decide +kernel
theorem dL_law_1059 : decode cL_law 1059 = .ok (.iaload, 1) := by decide +kernel
theorem dL_law_1060 : decode cL_law 1060 = .ok (.aload_n 0, 1) := by decide +kernel
theorem dL_law_1061 : decode cL_law 1061 = .ok (.iload_n 3, 1) := by decide +kernel
theorem dL_law_1062 : decode cL_law 1062 = .ok (.iconst 2, 1) := by decide +kernel
theorem dL_law_1063 : decode cL_law 1063 = .ok (.iadd, 1) := by decide +kernel
theorem dL_law_1064 : decode cL_law 1064 = .ok (.iaload, 1) := by decide +kernel
theorem dL_law_1065 : decode cL_law 1065 = .ok (.invokevirtual 109, 3) := by decide +kernel
theorem dL_law_1068 : decode cL_law 1068 = .ok (.aload_n 2, 1) := by decide +kernel
theorem dL_law_1069 : decode cL_law 1069 = .ok (.aload_n 0, 1) := by decide +kernel
theorem dL_law_1070 : decode cL_law 1070 = .ok (.iload_n 3, 1) := by decide +kernel
theorem dL_law_1071 : decode cL_law 1071 = .ok (.iconst 1, 1) := by decide +kernel
theorem dL_law_1072 : decode cL_law 1072 = .ok (.iadd, 1) := by decide +kernel
theorem dL_law_1073 : decode cL_law 1073 = .ok (.iaload, 1) := by decide +kernel
theorem dL_law_1074 : decode cL_law 1074 = .ok (.aload_n 0, 1) := by decide +kernel
theorem dL_law_1075 : decode cL_law 1075 = .ok (.iload_n 3, 1) := by decide +kernel
theorem dL_law_1076 : decode cL_law 1076 = .ok (.iconst 2, 1) := by decide +kernel
theorem dL_law_1077 : decode cL_law 1077 = .ok (.iadd, 1) := by decide +kernel
theorem dL_law_1078 : decode cL_law 1078 = .ok (.iaload, 1) := by decide +kernel
theorem dL_law_1079 : decode cL_law 1079 = .ok (.invokevirtual 112, 3) := by decide +kernel
theorem dL_law_1082 : decode cL_law 1082 = .ok (.if_icmp .eq 819, 3) := by decide +kernel
theorem dL_law_1085 : decode cL_law 1085 = .ok (.iconst 0, 1) := by decide +kernel
theorem dL_law_1086 : decode cL_law 1086 = .ok (.ireturn, 1) := by decide +kernel
theorem dL_law_1087 : decode cL_law 1087 = .ok (.aload_n 1, 1) := by decide +kernel
theorem dL_law_1088 : decode cL_law 1088 = .ok (.aload_n 0, 1) := by decide +kernel
theorem dL_law_1089 : decode cL_law 1089 = .ok (.iload_n 3, 1) := by decide +kernel
theorem dL_law_1090 : decode cL_law 1090 = .ok (.iconst 1, 1) := by decide +kernel
theorem dL_law_1091 : decode cL_law 1091 = .ok (.iadd, 1) := by decide +kernel
theorem dL_law_1092 : decode cL_law 1092 = .ok (.iaload, 1) := by decide +kernel
theorem dL_law_1093 : decode cL_law 1093 = .ok (.aload_n 0, 1) := by decide +kernel
theorem dL_law_1094 : decode cL_law 1094 = .ok (.iload_n 3, 1) := by decide +kernel
theorem dL_law_1095 : decode cL_law 1095 = .ok (.iconst 2, 1) := by decide +kernel
theorem dL_law_1096 : decode cL_law 1096 = .ok (.iadd, 1) := by decide +kernel
theorem dL_law_1097 : decode cL_law 1097 = .ok (.iaload, 1) := by decide +kernel
theorem dL_law_1098 : decode cL_law 1098 = .ok (.invokevirtual 113, 3) := by decide +kernel
theorem dL_law_1101 : decode cL_law 1101 = .ok (.aload_n 2, 1) := by decide +kernel
theorem dL_law_1102 : decode cL_law 1102 = .ok (.aload_n 0, 1) := by decide +kernel
theorem dL_law_1103 : decode cL_law 1103 = .ok (.iload_n 3, 1) := by decide +kernel
theorem dL_law_1104 : decode cL_law 1104 = .ok (.iconst 1, 1) := by decide +kernel
theorem dL_law_1105 : decode cL_law 1105 = .ok (.iadd, 1) := by decide +kernel
theorem dL_law_1106 : decode cL_law 1106 = .ok (.iaload, 1) := by decide +kernel
theorem dL_law_1107 : decode cL_law 1107 = .ok (.aload_n 0, 1) := by decide +kernel
theorem dL_law_1108 : decode cL_law 1108 = .ok (.iload_n 3, 1) := by decide +kernel
theorem dL_law_1109 : decode cL_law 1109 = .ok (.iconst 2, 1) := by decide +kernel
theorem dL_law_1110 : decode cL_law 1110 = .ok (.iadd, 1) := by decide +kernel
theorem dL_law_1111 : decode cL_law 1111 = .ok (.iaload, 1) := by decide +kernel
theorem dL_law_1112 : decode cL_law 1112 = .ok (.invokevirtual 116, 3) := by decide +kernel
theorem dL_law_1115 : decode cL_law 1115 = .ok (.if_icmp .eq 786, 3) := by decide +kernel
theorem dL_law_1118 : decode cL_law 1118 = .ok (.iconst 0, 1) := by decide +kernel
theorem dL_law_1119 : decode cL_law 1119 = .ok (.ireturn, 1) := by decide +kernel
theorem dL_law_1120 : decode cL_law 1120 = .ok (.aload_n 1, 1) := by decide +kernel
theorem dL_law_1121 : decode cL_law 1121 = .ok (.invokevirtual 117, 3) := by decide +kernel
theorem dL_law_1124 : decode cL_law 1124 = .ok (.aload_n 2, 1) := by decide +kernel
theorem dL_law_1125 : decode cL_law 1125 = .ok (.invokevirtual 120, 3) := by decide +kernel
theorem dL_law_1128 : decode cL_law 1128 = .ok (.if_icmp .eq 773, 3) := by decide +kernel
theorem dL_law_1131 : decode cL_law 1131 = .ok (.iconst 0, 1) := by decide +kernel
theorem dL_law_1132 : decode cL_law 1132 = .ok (.ireturn, 1) := by decide +kernel
theorem dL_law_1133 : decode cL_law 1133 = .ok (.aload_n 1, 1) := by decide +kernel
theorem dL_law_1134 : decode cL_law 1134 = .ok (.aload_n 0, 1) := by decide +kernel
theorem dL_law_1135 : decode cL_law 1135 = .ok (.iload_n 3, 1) := by decide +kernel
theorem dL_law_1136 : decode cL_law 1136 = .ok (.iconst 1, 1) := by decide +kernel
theorem dL_law_1137 : decode cL_law 1137 = .ok (.iadd, 1) := by decide +kernel
theorem dL_law_1138 : decode cL_law 1138 = .ok (.iaload, 1) := by decide +kernel
theorem dL_law_1139 : decode cL_law 1139 = .ok (.invokevirtual 121, 3) := by decide +kernel
theorem dL_law_1142 : decode cL_law 1142 = .ok (.aload_n 2, 1) := by decide +kernel
theorem dL_law_1143 : decode cL_law 1143 = .ok (.aload_n 0, 1) := by decide +kernel
theorem dL_law_1144 : decode cL_law 1144 = .ok (.iload_n 3, 1) := by decide +kernel
theorem dL_law_1145 : decode cL_law 1145 = .ok (.iconst 1, 1) := by decide +kernel
theorem dL_law_1146 : decode cL_law 1146 = .ok (.iadd, 1) := by decide +kernel
theorem dL_law_1147 : decode cL_law 1147 = .ok (.iaload, 1) := by decide +kernel
theorem dL_law_1148 : decode cL_law 1148 = .ok (.invokevirtual 124, 3) := by decide +kernel
theorem dL_law_1151 : decode cL_law 1151 = .ok (.if_icmp .eq 750, 3) := by decide +kernel
theorem dL_law_1154 : decode cL_law 1154 = .ok (.iconst 0, 1) := by decide +kernel
theorem dL_law_1155 : decode cL_law 1155 = .ok (.ireturn, 1) := by decide +kernel
theorem dL_law_1156 : decode cL_law 1156 = .ok (.aload_n 1, 1) := by decide +kernel
theorem dL_law_1157 : decode cL_law 1157 = .ok (.aload_n 0, 1) := by decide +kernel
theorem dL_law_1158 : decode cL_law 1158 = .ok (.iload_n 3, 1) := by decide +kernel
theorem dL_law_1159 : decode cL_law 1159 = .ok (.iconst 1, 1) := by decide +kernel
theorem dL_law_1160 : decode cL_law 1160 = .ok (.iadd, 1) := by decide +kernel
theorem dL_law_1161 : decode cL_law 1161 = .ok (.iaload, 1) := by decide +kernel
theorem dL_law_1162 : decode cL_law 1162 = .ok (.invokevirtual 125, 3) := by decide +kernel
theorem dL_law_1165 : decode cL_law 1165 = .ok (.aload_n 2, 1) := by decide +kernel
theorem dL_law_1166 : decode cL_law 1166 = .ok (.aload_n 0, 1) := by decide +kernel
theorem dL_law_1167 : decode cL_law 1167 = .ok (.iload_n 3, 1) := by decide +kernel
theorem dL_law_1168 : decode cL_law 1168 = .ok (.iconst 1, 1) := by decide +kernel
theorem dL_law_1169 : decode cL_law 1169 = .ok (.iadd, 1) := by decide +kernel
theorem dL_law_1170 : decode cL_law 1170 = .ok (.iaload, 1) := by decide +kernel
theorem dL_law_1171 : decode cL_law 1171 = .ok (.invokevirtual 128, 3) := by decide +kernel
theorem dL_law_1174 : decode cL_law 1174 = .ok (.if_icmp .eq 727, 3) := by decide +kernel
theorem dL_law_1177 : decode cL_law 1177 = .ok (.iconst 0, 1) := by decide +kernel
theorem dL_law_1178 : decode cL_law 1178 = .ok (.ireturn, 1) := by decide +kernel
theorem dL_law_1179 : decode cL_law 1179 = .ok (.aload_n 1, 1) := by decide +kernel
theorem dL_law_1180 : decode cL_law 1180 = .ok (.invokevirtual 129, 3) := by decide +kernel
theorem dL_law_1183 : decode cL_law 1183 = .ok (.aload_n 2, 1) := by decide +kernel
theorem dL_law_1184 : decode cL_law 1184 = .ok (.invokevirtual 132, 3) := by decide +kernel
theorem dL_law_1187 : decode cL_law 1187 = .ok (.if_icmp .eq 714, 3) := by decide +kernel
theorem dL_law_1190 : decode cL_law 1190 = .ok (.iconst 0, 1) := by decide +kernel
theorem dL_law_1191 : decode cL_law 1191 = .ok (.ireturn, 1) := by decide +kernel
theorem dL_law_1192 : decode cL_law 1192 = .ok (.aload_n 1, 1) := by decide +kernel
theorem dL_law_1193 : decode cL_law 1193 = .ok (.aload_n 0, 1) := by decide +kernel
theorem dL_law_1194 : decode cL_law 1194 = .ok (.iload_n 3, 1) := by decide +kernel
theorem dL_law_1195 : decode cL_law 1195 = .ok (.iconst 1, 1) := by decide +kernel
theorem dL_law_1196 : decode cL_law 1196 = .ok (.iadd, 1) := by decide +kernel
theorem dL_law_1197 : decode cL_law 1197 = .ok (.iaload, 1) := by decide +kernel
theorem dL_law_1198 : decode cL_law 1198 = .ok (.invokevirtual 133, 3) := by decide +kernel
theorem dL_law_1201 : decode cL_law 1201 = .ok (.aload_n 2, 1) := by decide +kernel
theorem dL_law_1202 : decode cL_law 1202 = .ok (.aload_n 0, 1) := by decide +kernel
theorem dL_law_1203 : decode cL_law 1203 = .ok (.iload_n 3, 1) := by decide +kernel
theorem dL_law_1204 : decode cL_law 1204 = .ok (.iconst 1, 1) := by decide +kernel
theorem dL_law_1205 : decode cL_law 1205 = .ok (.iadd, 1) := by decide +kernel
theorem dL_law_1206 : decode cL_law 1206 = .ok (.iaload, 1) := by decide +kernel
theorem dL_law_1207 : decode cL_law 1207 = .ok (.invokevirtual 136, 3) := by decide +kernel
theorem dL_law_1210 : decode cL_law 1210 = .ok (.if_icmp .eq 691, 3) := by decide +kernel
theorem dL_law_1213 : decode cL_law 1213 = .ok (.iconst 0, 1) := by decide +kernel
theorem dL_law_1214 : decode cL_law 1214 = .ok (.ireturn, 1) := by decide +kernel
theorem dL_law_1215 : decode cL_law 1215 = .ok (.aload_n 1, 1) := by decide +kernel
theorem dL_law_1216 : decode cL_law 1216 = .ok (.aload_n 0, 1) := by decide +kernel
theorem dL_law_1217 : decode cL_law 1217 = .ok (.iload_n 3, 1) := by decide +kernel
theorem dL_law_1218 : decode cL_law 1218 = .ok (.iconst 1, 1) := by decide +kernel
theorem dL_law_1219 : decode cL_law 1219 = .ok (.iadd, 1) := by decide +kernel
theorem dL_law_1220 : decode cL_law 1220 = .ok (.iaload, 1) := by decide +kernel
theorem dL_law_1221 : decode cL_law 1221 = .ok (.aload_n 0, 1) := by decide +kernel
theorem dL_law_1222 : decode cL_law 1222 = .ok (.iload_n 3, 1) := by decide +kernel
theorem dL_law_1223 : decode cL_law 1223 = .ok (.iconst 2, 1) := by decide +kernel
theorem dL_law_1224 : decode cL_law 1224 = .ok (.iadd, 1) := by decide +kernel
theorem dL_law_1225 : decode cL_law 1225 = .ok (.iaload, 1) := by decide +kernel
theorem dL_law_1226 : decode cL_law 1226 = .ok (.invokevirtual 137, 3) := by decide +kernel
theorem dL_law_1229 : decode cL_law 1229 = .ok (.aload_n 2, 1) := by decide +kernel
theorem dL_law_1230 : decode cL_law 1230 = .ok (.aload_n 0, 1) := by decide +kernel
theorem dL_law_1231 : decode cL_law 1231 = .ok (.iload_n 3, 1) := by decide +kernel
theorem dL_law_1232 : decode cL_law 1232 = .ok (.iconst 1, 1) := by decide +kernel
theorem dL_law_1233 : decode cL_law 1233 = .ok (.iadd, 1) := by decide +kernel
theorem dL_law_1234 : decode cL_law 1234 = .ok (.iaload, 1) := by decide +kernel
theorem dL_law_1235 : decode cL_law 1235 = .ok (.aload_n 0, 1) := by decide +kernel
theorem dL_law_1236 : decode cL_law 1236 = .ok (.iload_n 3, 1) := by decide +kernel
theorem dL_law_1237 : decode cL_law 1237 = .ok (.iconst 2, 1) := by decide +kernel
theorem dL_law_1238 : decode cL_law 1238 = .ok (.iadd, 1) := by decide +kernel
theorem dL_law_1239 : decode cL_law 1239 = .ok (.iaload, 1) := by decide +kernel
theorem dL_law_1240 : decode cL_law 1240 = .ok (.invokevirtual 140, 3) := by decide +kernel
theorem dL_law_1243 : decode cL_law 1243 = .ok (.if_icmp .eq 658, 3) := by decide +kernel
theorem dL_law_1246 : decode cL_law 1246 = .ok (.iconst 0, 1) := by decide +kernel
theorem dL_law_1247 : decode cL_law 1247 = .ok (.ireturn, 1) := by decide +kernel
theorem dL_law_1248 : decode cL_law 1248 = .ok (.aload_n 1, 1) := by decide +kernel
theorem dL_law_1249 : decode cL_law 1249 = .ok (.aload_n 0, 1) := by decide +kernel
theorem dL_law_1250 : decode cL_law 1250 = .ok (.iload_n 3, 1) := by decide +kernel
theorem dL_law_1251 : decode cL_law 1251 = .ok (.iconst 1, 1) := by decide +kernel
theorem dL_law_1252 : decode cL_law 1252 = .ok (.iadd, 1) := by decide +kernel
theorem dL_law_1253 : decode cL_law 1253 = .ok (.iaload, 1) := by decide +kernel
theorem dL_law_1254 : decode cL_law 1254 = .ok (.aload_n 0, 1) := by decide +kernel
theorem dL_law_1255 : decode cL_law 1255 = .ok (.iload_n 3, 1) := by decide +kernel
theorem dL_law_1256 : decode cL_law 1256 = .ok (.iconst 2, 1) := by decide +kernel
theorem dL_law_1257 : decode cL_law 1257 = .ok (.iadd, 1) := by decide +kernel
theorem dL_law_1258 : decode cL_law 1258 = .ok (.iaload, 1) := by decide +kernel
theorem dL_law_1259 : decode cL_law 1259 = .ok (.invokevirtual 141, 3) := by decide +kernel
theorem dL_law_1262 : decode cL_law 1262 = .ok (.aload_n 2, 1) := by decide +kernel
theorem dL_law_1263 : decode cL_law 1263 = .ok (.aload_n 0, 1) := by decide +kernel
theorem dL_law_1264 : decode cL_law 1264 = .ok (.iload_n 3, 1) := by decide +kernel
theorem dL_law_1265 : decode cL_law 1265 = .ok (.iconst 1, 1) := by decide +kernel
theorem dL_law_1266 : decode cL_law 1266 = .ok (.iadd, 1) := by decide +kernel
theorem dL_law_1267 : decode cL_law 1267 = .ok (.iaload, 1) := by decide +kernel
theorem dL_law_1268 : decode cL_law 1268 = .ok (.aload_n 0, 1) := by decide +kernel
theorem dL_law_1269 : decode cL_law 1269 = .ok (.iload_n 3, 1) := by decide +kernel
theorem dL_law_1270 : decode cL_law 1270 = .ok (.iconst 2, 1) := by decide +kernel
theorem dL_law_1271 : decode cL_law 1271 = .ok (.iadd, 1) := by decide +kernel
theorem dL_law_1272 : decode cL_law 1272 = .ok (.iaload, 1) := by decide +kernel
theorem dL_law_1273 : decode cL_law 1273 = .ok (.invokevirtual 144, 3) := by decide +kernel
theorem dL_law_1276 : decode cL_law 1276 = .ok (.if_icmp .eq 625, 3) := by decide +kernel
theorem dL_law_1279 : decode cL_law 1279 = .ok (.iconst 0, 1) := by decide +kernel
theorem dL_law_1280 : decode cL_law 1280 = .ok (.ireturn, 1) := by decide +kernel
theorem dL_law_1281 : decode cL_law 1281 = .ok (.aload_n 1, 1) := by decide +kernel
theorem dL_law_1282 : decode cL_law 1282 = .ok (.aload_n 0, 1) := by decide +kernel
theorem dL_law_1283 : decode cL_law 1283 = .ok (.iload_n 3, 1) := by decide +kernel
theorem dL_law_1284 : decode cL_law 1284 = .ok (.iconst 1, 1) := by decide +kernel
theorem dL_law_1285 : decode cL_law 1285 = .ok (.iadd, 1) := by decide +kernel
theorem dL_law_1286 : decode cL_law 1286 = .ok (.iaload, 1) := by decide +kernel
theorem dL_law_1287 : decode cL_law 1287 = .ok (.aload_n 0, 1) := by decide +kernel
theorem dL_law_1288 : decode cL_law 1288 = .ok (.iload_n 3, 1) := by decide +kernel
theorem dL_law_1289 : decode cL_law 1289 = .ok (.iconst 2, 1) := by decide +kernel
theorem dL_law_1290 : decode cL_law 1290 = .ok (.iadd, 1) := by decide +kernel
theorem dL_law_1291 : decode cL_law 1291 = .ok (.iaload, 1) := by decide +kernel
theorem dL_law_1292 : decode cL_law 1292 = .ok (.aload_n 0, 1) := by decide +kernel
theorem dL_law_1293 : decode cL_law 1293 = .ok (.iload_n 3, 1) := by decide +kernel
theorem dL_law_1294 : decode cL_law 1294 = .ok (.iconst 3, 1) := by decide +kernel
theorem dL_law_1295 : decode cL_law 1295 = .ok (.iadd, 1) := by decide +kernel
theorem dL_law_1296 : decode cL_law 1296 = .ok (.iaload, 1) := by decide +kernel
theorem dL_law_1297 : decode cL_law 1297 = .ok (.aload_n 0, 1) := by decide +kernel
theorem dL_law_1298 : decode cL_law 1298 = .ok (.iload_n 3, 1) := by decide +kernel
theorem dL_law_1299 : decode cL_law 1299 = .ok (.iconst 4, 1) := by decide +kernel
theorem dL_law_1300 : decode cL_law 1300 = .ok (.iadd, 1) := by decide +kernel
theorem dL_law_1301 : decode cL_law 1301 = .ok (.iaload, 1) := by decide +kernel
theorem dL_law_1302 : decode cL_law 1302 = .ok (.invokevirtual 145, 3) := by decide +kernel
theorem dL_law_1305 : decode cL_law 1305 = .ok (.aload_n 2, 1) := by decide +kernel
theorem dL_law_1306 : decode cL_law 1306 = .ok (.aload_n 0, 1) := by decide +kernel
theorem dL_law_1307 : decode cL_law 1307 = .ok (.iload_n 3, 1) := by decide +kernel
theorem dL_law_1308 : decode cL_law 1308 = .ok (.iconst 1, 1) := by decide +kernel
theorem dL_law_1309 : decode cL_law 1309 = .ok (.iadd, 1) := by decide +kernel
theorem dL_law_1310 : decode cL_law 1310 = .ok (.iaload, 1) := by decide +kernel
theorem dL_law_1311 : decode cL_law 1311 = .ok (.aload_n 0, 1) := by decide +kernel
theorem dL_law_1312 : decode cL_law 1312 = .ok (.iload_n 3, 1) := by decide +kernel
theorem dL_law_1313 : decode cL_law 1313 = .ok (.iconst 2, 1) := by decide +kernel
theorem dL_law_1314 : decode cL_law 1314 = .ok (.iadd, 1) := by decide +kernel
theorem dL_law_1315 : decode cL_law 1315 = .ok (.iaload, 1) := by decide +kernel
theorem dL_law_1316 : decode cL_law 1316 = .ok (.aload_n 0, 1) := by decide +kernel
theorem dL_law_1317 : decode cL_law 1317 = .ok (.iload_n 3, 1) := by decide +kernel
theorem dL_law_1318 : decode cL_law 1318 = .ok (.iconst 3, 1) := by decide +kernel
theorem dL_law_1319 : decode cL_law 1319 = .ok (.iadd, 1) := by decide +kernel
theorem dL_law_1320 : decode cL_law 1320 = .ok (.iaload, 1) := by decide +kernel
theorem dL_law_1321 : decode cL_law 1321 = .ok (.aload_n 0, 1) := by decide +kernel
theorem dL_law_1322 : decode cL_law 1322 = .ok (.iload_n 3, 1) := by decide +kernel
theorem dL_law_1323 : decode cL_law 1323 = .ok (.iconst 4, 1) := by decide +kernel
theorem dL_law_1324 : decode cL_law 1324 = .ok (.iadd, 1) := by decide +kernel
theorem dL_law_1325 : decode cL_law 1325 = .ok (.iaload, 1) := by decide +kernel
theorem dL_law_1326 : decode cL_law 1326 = .ok (.invokevirtual 149, 3) := by decide +kernel
theorem dL_law_1329 : decode cL_law 1329 = .ok (.if_icmp .eq 572, 3) := by decide +kernel
theorem dL_law_1332 : decode cL_law 1332 = .ok (.iconst 0, 1) := by decide +kernel
theorem dL_law_1333 : decode cL_law 1333 = .ok (.ireturn, 1) := by decide +kernel
theorem dL_law_1334 : decode cL_law 1334 = .ok (.aload_n 1, 1) := by decide +kernel
theorem dL_law_1335 : decode cL_law 1335 = .ok (.aload_n 0, 1) := by decide +kernel
theorem dL_law_1336 : decode cL_law 1336 = .ok (.iload_n 3, 1) := by decide +kernel
theorem dL_law_1337 : decode cL_law 1337 = .ok (.iconst 1, 1) := by decide +kernel
theorem dL_law_1338 : decode cL_law 1338 = .ok (.iadd, 1) := by decide +kernel
theorem dL_law_1339 : decode cL_law 1339 = .ok (.iaload, 1) := by decide +kernel
theorem dL_law_1340 : decode cL_law 1340 = .ok (.aload_n 0, 1) := by decide +kernel
theorem dL_law_1341 : decode cL_law 1341 = .ok (.iload_n 3, 1) := by decide +kernel
theorem dL_law_1342 : decode cL_law 1342 = .ok (.iconst 2, 1) := by decide +kernel
theorem dL_law_1343 : decode cL_law 1343 = .ok (.iadd, 1) := by decide +kernel
theorem dL_law_1344 : decode cL_law 1344 = .ok (.iaload, 1) := by decide +kernel
theorem dL_law_1345 : decode cL_law 1345 = .ok (.aload_n 0, 1) := by decide +kernel
theorem dL_law_1346 : decode cL_law 1346 = .ok (.iload_n 3, 1) := by decide +kernel
theorem dL_law_1347 : decode cL_law 1347 = .ok (.iconst 3, 1) := by decide +kernel
theorem dL_law_1348 : decode cL_law 1348 = .ok (.iadd, 1) := by decide +kernel
theorem dL_law_1349 : decode cL_law 1349 = .ok (.iaload, 1) := by decide +kernel
theorem dL_law_1350 : decode cL_law 1350 = .ok (.aload_n 0, 1) := by decide +kernel
theorem dL_law_1351 : decode cL_law 1351 = .ok (.iload_n 3, 1) := by decide +kernel
theorem dL_law_1352 : decode cL_law 1352 = .ok (.iconst 4, 1) := by decide +kernel
theorem dL_law_1353 : decode cL_law 1353 = .ok (.iadd, 1) := by decide +kernel
theorem dL_law_1354 : decode cL_law 1354 = .ok (.iaload, 1) := by decide +kernel
theorem dL_law_1355 : decode cL_law 1355 = .ok (.invokevirtual 150, 3) := by decide +kernel
theorem dL_law_1358 : decode cL_law 1358 = .ok (.aload_n 2, 1) := by decide +kernel
theorem dL_law_1359 : decode cL_law 1359 = .ok (.aload_n 0, 1) := by decide +kernel
theorem dL_law_1360 : decode cL_law 1360 = .ok (.iload_n 3, 1) := by decide +kernel
theorem dL_law_1361 : decode cL_law 1361 = .ok (.iconst 1, 1) := by decide +kernel
theorem dL_law_1362 : decode cL_law 1362 = .ok (.iadd, 1) := by decide +kernel
theorem dL_law_1363 : decode cL_law 1363 = .ok (.iaload, 1) := by decide +kernel
theorem dL_law_1364 : decode cL_law 1364 = .ok (.aload_n 0, 1) := by decide +kernel
theorem dL_law_1365 : decode cL_law 1365 = .ok (.iload_n 3, 1) := by decide +kernel
theorem dL_law_1366 : decode cL_law 1366 = .ok (.iconst 2, 1) := by decide +kernel
theorem dL_law_1367 : decode cL_law 1367 = .ok (.iadd, 1) := by decide +kernel
theorem dL_law_1368 : decode cL_law 1368 = .ok (.iaload, 1) := by decide +kernel
theorem dL_law_1369 : decode cL_law 1369 = .ok (.aload_n 0, 1) := by decide +kernel
theorem dL_law_1370 : decode cL_law 1370 = .ok (.iload_n 3, 1) := by decide +kernel
theorem dL_law_1371 : decode cL_law 1371 = .ok (.iconst 3, 1) := by decide +kernel
theorem dL_law_1372 : decode cL_law 1372 = .ok (.iadd, 1) := by decide +kernel
theorem dL_law_1373 : decode cL_law 1373 = .ok (.iaload, 1) := by decide +kernel
theorem dL_law_1374 : decode cL_law 1374 = .ok (.aload_n 0, 1) := by decide +kernel
theorem dL_law_1375 : decode cL_law 1375 = .ok (.iload_n 3, 1) := by decide +kernel
theorem dL_law_1376 : decode cL_law 1376 = .ok (.iconst 4, 1) := by decide +kernel
theorem dL_law_1377 : decode cL_law 1377 = .ok (.iadd, 1) := by decide +kernel
theorem dL_law_1378 : decode cL_law 1378 = .ok (.iaload, 1) := by decide +kernel
theorem dL_law_1379 : decode cL_law 1379 = .ok (.invokevirtual 153, 3) := by decide +kernel
theorem dL_law_1382 : decode cL_law 1382 = .ok (.if_icmp .eq 519, 3) := by decide +kernel
theorem dL_law_1385 : decode cL_law 1385 = .ok (.iconst 0, 1) := by decide +kernel
theorem dL_law_1386 : decode cL_law 1386 = .ok (.ireturn, 1) := by decide +kernel
theorem dL_law_1387 : decode cL_law 1387 = .ok (.aload_n 1, 1) := by decide +kernel
theorem dL_law_1388 : decode cL_law 1388 = .ok (.aload_n 0, 1) := by decide +kernel
theorem dL_law_1389 : decode cL_law 1389 = .ok (.iload_n 3, 1) := by decide +kernel
theorem dL_law_1390 : decode cL_law 1390 = .ok (.iconst 1, 1) := by decide +kernel
theorem dL_law_1391 : decode cL_law 1391 = .ok (.iadd, 1) := by decide +kernel
theorem dL_law_1392 : decode cL_law 1392 = .ok (.iaload, 1) := by decide +kernel
theorem dL_law_1393 : decode cL_law 1393 = .ok (.aload_n 0, 1) := by decide +kernel
theorem dL_law_1394 : decode cL_law 1394 = .ok (.iload_n 3, 1) := by decide +kernel
theorem dL_law_1395 : decode cL_law 1395 = .ok (.iconst 2, 1) := by decide +kernel
theorem dL_law_1396 : decode cL_law 1396 = .ok (.iadd, 1) := by decide +kernel
theorem dL_law_1397 : decode cL_law 1397 = .ok (.iaload, 1) := by decide +kernel
theorem dL_law_1398 : decode cL_law 1398 = .ok (.invokevirtual 154, 3) := by decide +kernel
theorem dL_law_1401 : decode cL_law 1401 = .ok (.aload_n 2, 1) := by decide +kernel
theorem dL_law_1402 : decode cL_law 1402 = .ok (.aload_n 0, 1) := by decide +kernel
theorem dL_law_1403 : decode cL_law 1403 = .ok (.iload_n 3, 1) := by decide +kernel
theorem dL_law_1404 : decode cL_law 1404 = .ok (.iconst 1, 1) := by decide +kernel
theorem dL_law_1405 : decode cL_law 1405 = .ok (.iadd, 1) := by decide +kernel
theorem dL_law_1406 : decode cL_law 1406 = .ok (.iaload, 1) := by decide +kernel
theorem dL_law_1407 : decode cL_law 1407 = .ok (.aload_n 0, 1) := by decide +kernel
theorem dL_law_1408 : decode cL_law 1408 = .ok (.iload_n 3, 1) := by decide +kernel
theorem dL_law_1409 : decode cL_law 1409 = .ok (.iconst 2, 1) := by decide +kernel
theorem dL_law_1410 : decode cL_law 1410 = .ok (.iadd, 1) := by decide +kernel
theorem dL_law_1411 : decode cL_law 1411 = .ok (.iaload, 1) := by decide +kernel
theorem dL_law_1412 : decode cL_law 1412 = .ok (.invokevirtual 157, 3) := by decide +kernel
theorem dL_law_1415 : decode cL_law 1415 = .ok (.if_icmp .eq 486, 3) := by decide +kernel
theorem dL_law_1418 : decode cL_law 1418 = .ok (.iconst 0, 1) := by decide +kernel
theorem dL_law_1419 : decode cL_law 1419 = .ok (.ireturn, 1) := by decide +kernel
theorem dL_law_1420 : decode cL_law 1420 = .ok (.aload_n 1, 1) := by decide +kernel
theorem dL_law_1421 : decode cL_law 1421 = .ok (.aload_n 0, 1) := by decide +kernel
theorem dL_law_1422 : decode cL_law 1422 = .ok (.iload_n 3, 1) := by decide +kernel
theorem dL_law_1423 : decode cL_law 1423 = .ok (.iconst 1, 1) := by decide +kernel
theorem dL_law_1424 : decode cL_law 1424 = .ok (.iadd, 1) := by decide +kernel
theorem dL_law_1425 : decode cL_law 1425 = .ok (.iaload, 1) := by decide +kernel
theorem dL_law_1426 : decode cL_law 1426 = .ok (.aload_n 0, 1) := by decide +kernel
theorem dL_law_1427 : decode cL_law 1427 = .ok (.iload_n 3, 1) := by decide +kernel
theorem dL_law_1428 : decode cL_law 1428 = .ok (.iconst 2, 1) := by decide +kernel
theorem dL_law_1429 : decode cL_law 1429 = .ok (.iadd, 1) := by decide +kernel
theorem dL_law_1430 : decode cL_law 1430 = .ok (.iaload, 1) := by decide +kernel
theorem dL_law_1431 : decode cL_law 1431 = .ok (.invokevirtual 158, 3) := by decide +kernel
theorem dL_law_1434 : decode cL_law 1434 = .ok (.aload_n 2, 1) := by decide +kernel
theorem dL_law_1435 : decode cL_law 1435 = .ok (.aload_n 0, 1) := by decide +kernel
theorem dL_law_1436 : decode cL_law 1436 = .ok (.iload_n 3, 1) := by decide +kernel
theorem dL_law_1437 : decode cL_law 1437 = .ok (.iconst 1, 1) := by decide +kernel
theorem dL_law_1438 : decode cL_law 1438 = .ok (.iadd, 1) := by decide +kernel
theorem dL_law_1439 : decode cL_law 1439 = .ok (.iaload, 1) := by decide +kernel
theorem dL_law_1440 : decode cL_law 1440 = .ok (.aload_n 0, 1) := by decide +kernel
theorem dL_law_1441 : decode cL_law 1441 = .ok (.iload_n 3, 1) := by decide +kernel
theorem dL_law_1442 : decode cL_law 1442 = .ok (.iconst 2, 1) := by decide +kernel
theorem dL_law_1443 : decode cL_law 1443 = .ok (.iadd, 1) := by decide +kernel
theorem dL_law_1444 : decode cL_law 1444 = .ok (.iaload, 1) := by decide +kernel
theorem dL_law_1445 : decode cL_law 1445 = .ok (.invokevirtual 161, 3) := by decide +kernel
theorem dL_law_1448 : decode cL_law 1448 = .ok (.if_icmp .eq 453, 3) := by decide +kernel
theorem dL_law_1451 : decode cL_law 1451 = .ok (.iconst 0, 1) := by decide +kernel
theorem dL_law_1452 : decode cL_law 1452 = .ok (.ireturn, 1) := by decide +kernel
theorem dL_law_1453 : decode cL_law 1453 = .ok (.aload_n 1, 1) := by decide +kernel
theorem dL_law_1454 : decode cL_law 1454 = .ok (.aload_n 0, 1) := by decide +kernel
theorem dL_law_1455 : decode cL_law 1455 = .ok (.iload_n 3, 1) := by decide +kernel
theorem dL_law_1456 : decode cL_law 1456 = .ok (.iconst 1, 1) := by decide +kernel
theorem dL_law_1457 : decode cL_law 1457 = .ok (.iadd, 1) := by decide +kernel
theorem dL_law_1458 : decode cL_law 1458 = .ok (.iaload, 1) := by decide +kernel
theorem dL_law_1459 : decode cL_law 1459 = .ok (.aload_n 0, 1) := by decide +kernel
theorem dL_law_1460 : decode cL_law 1460 = .ok (.iload_n 3, 1) := by decide +kernel
theorem dL_law_1461 : decode cL_law 1461 = .ok (.iconst 2, 1) := by decide +kernel
theorem dL_law_1462 : decode cL_law 1462 = .ok (.iadd, 1) := by decide +kernel
theorem dL_law_1463 : decode cL_law 1463 = .ok (.iaload, 1) := by decide +kernel
theorem dL_law_1464 : decode cL_law 1464 = .ok (.invokevirtual 162, 3) := by decide +kernel
theorem dL_law_1467 : decode cL_law 1467 = .ok (.aload_n 2, 1) := by decide +kernel
theorem dL_law_1468 : decode cL_law 1468 = .ok (.aload_n 0, 1) := by decide +kernel
theorem dL_law_1469 : decode cL_law 1469 = .ok (.iload_n 3, 1) := by decide +kernel
theorem dL_law_1470 : decode cL_law 1470 = .ok (.iconst 1, 1) := by decide +kernel
theorem dL_law_1471 : decode cL_law 1471 = .ok (.iadd, 1) := by decide +kernel
theorem dL_law_1472 : decode cL_law 1472 = .ok (.iaload, 1) := by decide +kernel
theorem dL_law_1473 : decode cL_law 1473 = .ok (.aload_n 0, 1) := by decide +kernel
theorem dL_law_1474 : decode cL_law 1474 = .ok (.iload_n 3, 1) := by decide +kernel
theorem dL_law_1475 : decode cL_law 1475 = .ok (.iconst 2, 1) := by decide +kernel
theorem dL_law_1476 : decode cL_law 1476 = .ok (.iadd, 1) := by decide +kernel
theorem dL_law_1477 : decode cL_law 1477 = .ok (.iaload, 1) := by decide +kernel
theorem dL_law_1478 : decode cL_law 1478 = .ok (.invokevirtual 165, 3) := by decide +kernel
theorem dL_law_1481 : decode cL_law 1481 = .ok (.if_icmp .eq 420, 3) := by decide +kernel
theorem dL_law_1484 : decode cL_law 1484 = .ok (.iconst 0, 1) := by decide +kernel
theorem dL_law_1485 : decode cL_law 1485 = .ok (.ireturn, 1) := by decide +kernel
theorem dL_law_1486 : decode cL_law 1486 = .ok (.aload_n 1, 1) := by decide +kernel
theorem dL_law_1487 : decode cL_law 1487 = .ok (.aload_n 0, 1) := by decide +kernel
theorem dL_law_1488 : decode cL_law 1488 = .ok (.iload_n 3, 1) := by decide +kernel
theorem dL_law_1489 : decode cL_law 1489 = .ok (.iconst 1, 1) := by decide +kernel
theorem dL_law_1490 : decode cL_law 1490 = .ok (.iadd, 1) := by decide +kernel
theorem dL_law_1491 : decode cL_law 1491 = .ok (.iaload, 1) := by decide +kernel
theorem dL_law_1492 : decode cL_law 1492 = .ok (.aload_n 0, 1) := by decide +kernel
theorem dL_law_1493 : decode cL_law 1493 = .ok (.iload_n 3, 1) := by decide +kernel
theorem dL_law_1494 : decode cL_law 1494 = .ok (.iconst 2, 1) := by decide +kernel
theorem dL_law_1495 : decode cL_law 1495 = .ok (.iadd, 1) := by decide +kernel
theorem dL_law_1496 : decode cL_law 1496 = .ok (.iaload, 1) := by decide +kernel
theorem dL_law_1497 : decode cL_law 1497 = .ok (.invokevirtual 166, 3) := by decide +kernel
theorem dL_law_1500 : decode cL_law 1500 = .ok (.aload_n 2, 1) := by decide +kernel
theorem dL_law_1501 : decode cL_law 1501 = .ok (.aload_n 0, 1) := by decide +kernel
theorem dL_law_1502 : decode cL_law 1502 = .ok (.iload_n 3, 1) := by decide +kernel
theorem dL_law_1503 : decode cL_law 1503 = .ok (.iconst 1, 1) := by decide +kernel
theorem dL_law_1504 : decode cL_law 1504 = .ok (.iadd, 1) := by decide +kernel
theorem dL_law_1505 : decode cL_law 1505 = .ok (.iaload, 1) := by decide +kernel
theorem dL_law_1506 : decode cL_law 1506 = .ok (.aload_n 0, 1) := by decide +kernel
theorem dL_law_1507 : decode cL_law 1507 = .ok (.iload_n 3, 1) := by decide +kernel
theorem dL_law_1508 : decode cL_law 1508 = .ok (.iconst 2, 1) := by decide +kernel
theorem dL_law_1509 : decode cL_law 1509 = .ok (.iadd, 1) := by decide +kernel
theorem dL_law_1510 : decode cL_law 1510 = .ok (.iaload, 1) := by decide +kernel
theorem dL_law_1511 : decode cL_law 1511 = .ok (.invokevirtual 169, 3) := by decide +kernel
theorem dL_law_1514 : decode cL_law 1514 = .ok (.if_icmp .eq 387, 3) := by decide +kernel
theorem dL_law_1517 : decode cL_law 1517 = .ok (.iconst 0, 1) := by decide +kernel
theorem dL_law_1518 : decode cL_law 1518 = .ok (.ireturn, 1) := by decide +kernel
theorem dL_law_1519 : decode cL_law 1519 = .ok (.aload_n 1, 1) := by decide +kernel
theorem dL_law_1520 : decode cL_law 1520 = .ok (.aload_n 0, 1) := by decide +kernel
theorem dL_law_1521 : decode cL_law 1521 = .ok (.iload_n 3, 1) := by decide +kernel
theorem dL_law_1522 : decode cL_law 1522 = .ok (.iconst 1, 1) := by decide +kernel
theorem dL_law_1523 : decode cL_law 1523 = .ok (.iadd, 1) := by decide +kernel
theorem dL_law_1524 : decode cL_law 1524 = .ok (.iaload, 1) := by decide +kernel
theorem dL_law_1525 : decode cL_law 1525 = .ok (.aload_n 0, 1) := by decide +kernel
theorem dL_law_1526 : decode cL_law 1526 = .ok (.iload_n 3, 1) := by decide +kernel
theorem dL_law_1527 : decode cL_law 1527 = .ok (.iconst 2, 1) := by decide +kernel
theorem dL_law_1528 : decode cL_law 1528 = .ok (.iadd, 1) := by decide +kernel
theorem dL_law_1529 : decode cL_law 1529 = .ok (.iaload, 1) := by decide +kernel
theorem dL_law_1530 : decode cL_law 1530 = .ok (.invokevirtual 170, 3) := by decide +kernel
theorem dL_law_1533 : decode cL_law 1533 = .ok (.aload_n 2, 1) := by decide +kernel
theorem dL_law_1534 : decode cL_law 1534 = .ok (.aload_n 0, 1) := by decide +kernel
theorem dL_law_1535 : decode cL_law 1535 = .ok (.iload_n 3, 1) := by decide +kernel
theorem dL_law_1536 : decode cL_law 1536 = .ok (.iconst 1, 1) := by decide +kernel
theorem dL_law_1537 : decode cL_law 1537 = .ok (.iadd, 1) := by decide +kernel
theorem dL_law_1538 : decode cL_law 1538 = .ok (.iaload, 1) := by decide +kernel
theorem dL_law_1539 : decode cL_law 1539 = .ok (.aload_n 0, 1) := by decide +kernel
theorem dL_law_1540 : decode cL_law 1540 = .ok (.iload_n 3, 1) := by decide +kernel
theorem dL_law_1541 : decode cL_law 1541 = .ok (.iconst 2, 1) := by decide +kernel
theorem dL_law_1542 : decode cL_law 1542 = .ok (.iadd, 1) := by decide +kernel
theorem dL_law_1543 : decode cL_law 1543 = .ok (.iaload, 1) := by decide +kernel
theorem dL_law_1544 : decode cL_law 1544 = .ok (.invokevirtual 173, 3) := by decide +kernel
theorem dL_law_1547 : decode cL_law 1547 = .ok (.if_icmp .eq 354, 3) := by decide +kernel
theorem dL_law_1550 : decode cL_law 1550 = .ok (.iconst 0, 1) := by decide +kernel
theorem dL_law_1551 : decode cL_law 1551 = .ok (.ireturn, 1) := by decide +kernel
theorem dL_law_1552 : decode cL_law 1552 = .ok (.aload_n 1, 1) := by decide +kernel
theorem dL_law_1553 : decode cL_law 1553 = .ok (.aload_n 0, 1) := by decide +kernel
theorem dL_law_1554 : decode cL_law 1554 = .ok (.iload_n 3, 1) := by decide +kernel
theorem dL_law_1555 : decode cL_law 1555 = .ok (.iconst 1, 1) := by decide +kernel
theorem dL_law_1556 : decode cL_law 1556 = .ok (.iadd, 1) := by decide +kernel
theorem dL_law_1557 : decode cL_law 1557 = .ok (.iaload, 1) := by decide +kernel
theorem dL_law_1558 : decode cL_law 1558 = .ok (.aload_n 0, 1) := by decide +kernel
theorem dL_law_1559 : decode cL_law 1559 = .ok (.iload_n 3, 1) := by decide +kernel
theorem dL_law_1560 : decode cL_law 1560 = .ok (.iconst 2, 1) := by decide +kernel
theorem dL_law_1561 : decode cL_law 1561 = .ok (.iadd, 1) := by decide +kernel
theorem dL_law_1562 : decode cL_law 1562 = .ok (.iaload, 1) := by decide +kernel
theorem dL_law_1563 : decode cL_law 1563 = .ok (.invokevirtual 174, 3) := by decide +kernel
theorem dL_law_1566 : decode cL_law 1566 = .ok (.aload_n 2, 1) := by decide +kernel
theorem dL_law_1567 : decode cL_law 1567 = .ok (.aload_n 0, 1) := by decide +kernel
theorem dL_law_1568 : decode cL_law 1568 = .ok (.iload_n 3, 1) := by decide +kernel
theorem dL_law_1569 : decode cL_law 1569 = .ok (.iconst 1, 1) := by decide +kernel
theorem dL_law_1570 : decode cL_law 1570 = .ok (.iadd, 1) := by decide +kernel
theorem dL_law_1571 : decode cL_law 1571 = .ok (.iaload, 1) := by decide +kernel
theorem dL_law_1572 : decode cL_law 1572 = .ok (.aload_n 0, 1) := by decide +kernel
theorem dL_law_1573 : decode cL_law 1573 = .ok (.iload_n 3, 1) := by decide +kernel
theorem dL_law_1574 : decode cL_law 1574 = .ok (.iconst 2, 1) := by decide +kernel
theorem dL_law_1575 : decode cL_law 1575 = .ok (.iadd, 1) := by decide +kernel
theorem dL_law_1576 : decode cL_law 1576 = .ok (.iaload, 1) := by decide +kernel
theorem dL_law_1577 : decode cL_law 1577 = .ok (.invokevirtual 177, 3) := by decide +kernel
theorem dL_law_1580 : decode cL_law 1580 = .ok (.if_icmp .eq 321, 3) := by decide +kernel
theorem dL_law_1583 : decode cL_law 1583 = .ok (.iconst 0, 1) := by decide +kernel
theorem dL_law_1584 : decode cL_law 1584 = .ok (.ireturn, 1) := by decide +kernel
theorem dL_law_1585 : decode cL_law 1585 = .ok (.aload_n 1, 1) := by decide +kernel
theorem dL_law_1586 : decode cL_law 1586 = .ok (.aload_n 0, 1) := by decide +kernel
theorem dL_law_1587 : decode cL_law 1587 = .ok (.iload_n 3, 1) := by decide +kernel
theorem dL_law_1588 : decode cL_law 1588 = .ok (.iconst 1, 1) := by decide +kernel
theorem dL_law_1589 : decode cL_law 1589 = .ok (.iadd, 1) := by decide +kernel
theorem dL_law_1590 : decode cL_law 1590 = .ok (.iaload, 1) := by decide +kernel
theorem dL_law_1591 : decode cL_law 1591 = .ok (.invokevirtual 178, 3) := by decide +kernel
theorem dL_law_1594 : decode cL_law 1594 = .ok (.aload_n 2, 1) := by decide +kernel
theorem dL_law_1595 : decode cL_law 1595 = .ok (.aload_n 0, 1) := by decide +kernel
theorem dL_law_1596 : decode cL_law 1596 = .ok (.iload_n 3, 1) := by decide +kernel
theorem dL_law_1597 : decode cL_law 1597 = .ok (.iconst 1, 1) := by decide +kernel
theorem dL_law_1598 : decode cL_law 1598 = .ok (.iadd, 1) := by decide +kernel
theorem dL_law_1599 : decode cL_law 1599 = .ok (.iaload, 1) := by decide +kernel
theorem dL_law_1600 : decode cL_law 1600 = .ok (.invokevirtual 181, 3) := by decide +kernel
theorem dL_law_1603 : decode cL_law 1603 = .ok (.if_icmp .eq 298, 3) := by decide +kernel
theorem dL_law_1606 : decode cL_law 1606 = .ok (.iconst 0, 1) := by decide +kernel
theorem dL_law_1607 : decode cL_law 1607 = .ok (.ireturn, 1) := by decide +kernel
theorem dL_law_1608 : decode cL_law 1608 = .ok (.aload_n 1, 1) := by decide +kernel
theorem dL_law_1609 : decode cL_law 1609 = .ok (.aload_n 0, 1) := by decide +kernel
theorem dL_law_1610 : decode cL_law 1610 = .ok (.iload_n 3, 1) := by decide +kernel
theorem dL_law_1611 : decode cL_law 1611 = .ok (.iconst 1, 1) := by decide +kernel
theorem dL_law_1612 : decode cL_law 1612 = .ok (.iadd, 1) := by decide +kernel
theorem dL_law_1613 : decode cL_law 1613 = .ok (.iaload, 1) := by decide +kernel
theorem dL_law_1614 : decode cL_law 1614 = .ok (.invokevirtual 182, 3) := by decide +kernel
theorem dL_law_1617 : decode cL_law 1617 = .ok (.aload_n 2, 1) := by decide +kernel
theorem dL_law_1618 : decode cL_law 1618 = .ok (.aload_n 0, 1) := by decide +kernel
theorem dL_law_1619 : decode cL_law 1619 = .ok (.iload_n 3, 1) := by decide +kernel
theorem dL_law_1620 : decode cL_law 1620 = .ok (.iconst 1, 1) := by decide +kernel
theorem dL_law_1621 : decode cL_law 1621 = .ok (.iadd, 1) := by decide +kernel
theorem dL_law_1622 : decode cL_law 1622 = .ok (.iaload, 1) := by decide +kernel
theorem dL_law_1623 : decode cL_law 1623 = .ok (.invokevirtual 185, 3) := by decide +kernel
theorem dL_law_1626 : decode cL_law 1626 = .ok (.if_icmp .eq 275, 3) := by decide +kernel
theorem dL_law_1629 : decode cL_law 1629 = .ok (.iconst 0, 1) := by decide +kernel
theorem dL_law_1630 : decode cL_law 1630 = .ok (.ireturn, 1) := by decide +kernel
theorem dL_law_1631 : decode cL_law 1631 = .ok (.aload_n 1, 1) := by decide +kernel
theorem dL_law_1632 : decode cL_law 1632 = .ok (.aload_n 0, 1) := by decide +kernel
theorem dL_law_1633 : decode cL_law 1633 = .ok (.iload_n 3, 1) := by decide +kernel
theorem dL_law_1634 : decode cL_law 1634 = .ok (.iconst 1, 1) := by decide +kernel
theorem dL_law_1635 : decode cL_law 1635 = .ok (.iadd, 1) := by decide +kernel
theorem dL_law_1636 : decode cL_law 1636 = .ok (.iaload, 1) := by decide +kernel
theorem dL_law_1637 : decode cL_law 1637 = .ok (.invokevirtual 186, 3) := by decide +kernel
theorem dL_law_1640 : decode cL_law 1640 = .ok (.aload_n 2, 1) := by decide +kernel
theorem dL_law_1641 : decode cL_law 1641 = .ok (.aload_n 0, 1) := by decide +kernel
theorem dL_law_1642 : decode cL_law 1642 = .ok (.iload_n 3, 1) := by decide +kernel
theorem dL_law_1643 : decode cL_law 1643 = .ok (.iconst 1, 1) := by decide +kernel
theorem dL_law_1644 : decode cL_law 1644 = .ok (.iadd, 1) := by decide +kernel
theorem dL_law_1645 : decode cL_law 1645 = .ok (.iaload, 1) := by decide +kernel
theorem dL_law_1646 : decode cL_law 1646 = .ok (.invokevirtual 189, 3) := by decide +kernel
theorem dL_law_1649 : decode cL_law 1649 = .ok (.if_icmp .eq 252, 3) := by decide +kernel
theorem dL_law_1652 : decode cL_law 1652 = .ok (.iconst 0, 1) := by decide +kernel
theorem dL_law_1653 : decode cL_law 1653 = .ok (.ireturn, 1) := by decide +kernel
theorem dL_law_1654 : decode cL_law 1654 = .ok (.aload_n 1, 1) := by decide +kernel
theorem dL_law_1655 : decode cL_law 1655 = .ok (.aload_n 0, 1) := by decide +kernel
theorem dL_law_1656 : decode cL_law 1656 = .ok (.iload_n 3, 1) := by decide +kernel
theorem dL_law_1657 : decode cL_law 1657 = .ok (.iconst 1, 1) := by decide +kernel
theorem dL_law_1658 : decode cL_law 1658 = .ok (.iadd, 1) := by decide +kernel
theorem dL_law_1659 : decode cL_law 1659 = .ok (.iaload, 1) := by decide +kernel
theorem dL_law_1660 : decode cL_law 1660 = .ok (.aload_n 0, 1) := by decide +kernel
theorem dL_law_1661 : decode cL_law 1661 = .ok (.iload_n 3, 1) := by decide +kernel
theorem dL_law_1662 : decode cL_law 1662 = .ok (.iconst 2, 1) := by decide +kernel
theorem dL_law_1663 : decode cL_law 1663 = .ok (.iadd, 1) := by decide +kernel
theorem dL_law_1664 : decode cL_law 1664 = .ok (.iaload, 1) := by decide +kernel
theorem dL_law_1665 : decode cL_law 1665 = .ok (.aload_n 0, 1) := by decide +kernel
theorem dL_law_1666 : decode cL_law 1666 = .ok (.iload_n 3, 1) := by decide +kernel
theorem dL_law_1667 : decode cL_law 1667 = .ok (.iconst 3, 1) := by decide +kernel
theorem dL_law_1668 : decode cL_law 1668 = .ok (.iadd, 1) := by decide +kernel
theorem dL_law_1669 : decode cL_law 1669 = .ok (.iaload, 1) := by decide +kernel
theorem dL_law_1670 : decode cL_law 1670 = .ok (.invokevirtual 190, 3) := by decide +kernel
theorem dL_law_1673 : decode cL_law 1673 = .ok (.aload_n 2, 1) := by decide +kernel
theorem dL_law_1674 : decode cL_law 1674 = .ok (.aload_n 0, 1) := by decide +kernel
theorem dL_law_1675 : decode cL_law 1675 = .ok (.iload_n 3, 1) := by decide +kernel
theorem dL_law_1676 : decode cL_law 1676 = .ok (.iconst 1, 1) := by decide +kernel
theorem dL_law_1677 : decode cL_law 1677 = .ok (.iadd, 1) := by decide +kernel
theorem dL_law_1678 : decode cL_law 1678 = .ok (.iaload, 1) := by decide +kernel
theorem dL_law_1679 : decode cL_law 1679 = .ok (.aload_n 0, 1) := by decide +kernel
theorem dL_law_1680 : decode cL_law 1680 = .ok (.iload_n 3, 1) := by decide +kernel
theorem dL_law_1681 : decode cL_law 1681 = .ok (.iconst 2, 1) := by decide +kernel
theorem dL_law_1682 : decode cL_law 1682 = .ok (.iadd, 1) := by decide +kernel
theorem dL_law_1683 : decode cL_law 1683 = .ok (.iaload, 1) := by decide +kernel
theorem dL_law_1684 : decode cL_law 1684 = .ok (.aload_n 0, 1) := by decide +kernel
theorem dL_law_1685 : decode cL_law 1685 = .ok (.iload_n 3, 1) := by decide +kernel
theorem dL_law_1686 : decode cL_law 1686 = .ok (.iconst 3, 1) := by decide +kernel
theorem dL_law_1687 : decode cL_law 1687 = .ok (.iadd, 1) := by decide +kernel
theorem dL_law_1688 : decode cL_law 1688 = .ok (.iaload, 1) := by decide +kernel
theorem dL_law_1689 : decode cL_law 1689 = .ok (.invokevirtual 193, 3) := by decide +kernel
theorem dL_law_1692 : decode cL_law 1692 = .ok (.if_icmp .eq 209, 3) := by decide +kernel
theorem dL_law_1695 : decode cL_law 1695 = .ok (.iconst 0, 1) := by decide +kernel
theorem dL_law_1696 : decode cL_law 1696 = .ok (.ireturn, 1) := by decide +kernel
theorem dL_law_1697 : decode cL_law 1697 = .ok (.aload_n 1, 1) := by decide +kernel
theorem dL_law_1698 : decode cL_law 1698 = .ok (.aload_n 0, 1) := by decide +kernel
theorem dL_law_1699 : decode cL_law 1699 = .ok (.iload_n 3, 1) := by decide +kernel
theorem dL_law_1700 : decode cL_law 1700 = .ok (.iconst 1, 1) := by decide +kernel
theorem dL_law_1701 : decode cL_law 1701 = .ok (.iadd, 1) := by decide +kernel
theorem dL_law_1702 : decode cL_law 1702 = .ok (.iaload, 1) := by decide +kernel
theorem dL_law_1703 : decode cL_law 1703 = .ok (.aload_n 0, 1) := by decide +kernel
theorem dL_law_1704 : decode cL_law 1704 = .ok (.iload_n 3, 1) := by decide +kernel
theorem dL_law_1705 : decode cL_law 1705 = .ok (.iconst 2, 1) := by decide +kernel
theorem dL_law_1706 : decode cL_law 1706 = .ok (.iadd, 1) := by decide +kernel
theorem dL_law_1707 : decode cL_law 1707 = .ok (.iaload, 1) := by decide +kernel
theorem dL_law_1708 : decode cL_law 1708 = .ok (.aload_n 0, 1) := by decide +kernel
theorem dL_law_1709 : decode cL_law 1709 = .ok (.iload_n 3, 1) := by decide +kernel
theorem dL_law_1710 : decode cL_law 1710 = .ok (.iconst 3, 1) := by decide +kernel
theorem dL_law_1711 : decode cL_law 1711 = .ok (.iadd, 1) := by decide +kernel
theorem dL_law_1712 : decode cL_law 1712 = .ok (.iaload, 1) := by decide +kernel
theorem dL_law_1713 : decode cL_law 1713 = .ok (.invokevirtual 194, 3) := by decide +kernel
theorem dL_law_1716 : decode cL_law 1716 = .ok (.aload_n 2, 1) := by decide +kernel
theorem dL_law_1717 : decode cL_law 1717 = .ok (.aload_n 0, 1) := by decide +kernel
theorem dL_law_1718 : decode cL_law 1718 = .ok (.iload_n 3, 1) := by decide +kernel
theorem dL_law_1719 : decode cL_law 1719 = .ok (.iconst 1, 1) := by decide +kernel
theorem dL_law_1720 : decode cL_law 1720 = .ok (.iadd, 1) := by decide +kernel
theorem dL_law_1721 : decode cL_law 1721 = .ok (.iaload, 1) := by decide +kernel
theorem dL_law_1722 : decode cL_law 1722 = .ok (.aload_n 0, 1) := by decide +kernel
theorem dL_law_1723 : decode cL_law 1723 = .ok (.iload_n 3, 1) := by decide +kernel
theorem dL_law_1724 : decode cL_law 1724 = .ok (.iconst 2, 1) := by decide +kernel
theorem dL_law_1725 : decode cL_law 1725 = .ok (.iadd, 1) := by decide +kernel
theorem dL_law_1726 : decode cL_law 1726 = .ok (.iaload, 1) := by decide +kernel
theorem dL_law_1727 : decode cL_law 1727 = .ok (.aload_n 0, 1) := by decide +kernel
theorem dL_law_1728 : decode cL_law 1728 = .ok (.iload_n 3, 1) := by decide +kernel
theorem dL_law_1729 : decode cL_law 1729 = .ok (.iconst 3, 1) := by decide +kernel
theorem dL_law_1730 : decode cL_law 1730 = .ok (.iadd, 1) := by decide +kernel
theorem dL_law_1731 : decode cL_law 1731 = .ok (.iaload, 1) := by decide +kernel
theorem dL_law_1732 : decode cL_law 1732 = .ok (.invokevirtual 197, 3) := by decide +kernel
theorem dL_law_1735 : decode cL_law 1735 = .ok (.if_icmp .eq 166, 3) := by decide +kernel
theorem dL_law_1738 : decode cL_law 1738 = .ok (.iconst 0, 1) := by decide +kernel
theorem dL_law_1739 : decode cL_law 1739 = .ok (.ireturn, 1) := by decide +kernel
theorem dL_law_1740 : decode cL_law 1740 = .ok (.aload_n 1, 1) := by decide +kernel
theorem dL_law_1741 : decode cL_law 1741 = .ok (.aload_n 0, 1) := by decide +kernel
theorem dL_law_1742 : decode cL_law 1742 = .ok (.iload_n 3, 1) := by decide +kernel
theorem dL_law_1743 : decode cL_law 1743 = .ok (.iconst 1, 1) := by decide +kernel
theorem dL_law_1744 : decode cL_law 1744 = .ok (.iadd, 1) := by decide +kernel
theorem dL_law_1745 : decode cL_law 1745 = .ok (.iaload, 1) := by decide +kernel
theorem dL_law_1746 : decode cL_law 1746 = .ok (.aload_n 0, 1) := by decide +kernel
theorem dL_law_1747 : decode cL_law 1747 = .ok (.iload_n 3, 1) := by decide +kernel
theorem dL_law_1748 : decode cL_law 1748 = .ok (.iconst 2, 1) := by decide +kernel
theorem dL_law_1749 : decode cL_law 1749 = .ok (.iadd, 1) := by decide +kernel
theorem dL_law_1750 : decode cL_law 1750 = .ok (.iaload, 1) := by decide +kernel
theorem dL_law_1751 : decode cL_law 1751 = .ok (.invokevirtual 198, 3) := by decide +kernel
theorem dL_law_1754 : decode cL_law 1754 = .ok (.aload_n 2, 1) := by decide +kernel
theorem dL_law_1755 : decode cL_law 1755 = .ok (.aload_n 0, 1) := by decide +kernel
theorem dL_law_1756 : decode cL_law 1756 = .ok (.iload_n 3, 1) := by decide +kernel
theorem dL_law_1757 : decode cL_law 1757 = .ok (.iconst 1, 1) := by decide +kernel
theorem dL_law_1758 : decode cL_law 1758 = .ok (.iadd, 1) := by decide +kernel
theorem dL_law_1759 : decode cL_law 1759 = .ok (.iaload, 1) := by decide +kernel
theorem dL_law_1760 : decode cL_law 1760 = .ok (.aload_n 0, 1) := by decide +kernel
theorem dL_law_1761 : decode cL_law 1761 = .ok (.iload_n 3, 1) := by decide +kernel
theorem dL_law_1762 : decode cL_law 1762 = .ok (.iconst 2, 1) := by decide +kernel
theorem dL_law_1763 : decode cL_law 1763 = .ok (.iadd, 1) := by decide +kernel
theorem dL_law_1764 : decode cL_law 1764 = .ok (.iaload, 1) := by decide +kernel
theorem dL_law_1765 : decode cL_law 1765 = .ok (.invokevirtual 201, 3) := by decide +kernel
theorem dL_law_1768 : decode cL_law 1768 = .ok (.if_icmp .eq 133, 3) := by decide +kernel
theorem dL_law_1771 : decode cL_law 1771 = .ok (.iconst 0, 1) := by decide +kernel
theorem dL_law_1772 : decode cL_law 1772 = .ok (.ireturn, 1) := by decide +kernel
theorem dL_law_1773 : decode cL_law 1773 = .ok (.aload_n 1, 1) := by decide +kernel
theorem dL_law_1774 : decode cL_law 1774 = .ok (.aload_n 0, 1) := by decide +kernel
theorem dL_law_1775 : decode cL_law 1775 = .ok (.iload_n 3, 1) := by decide +kernel
theorem dL_law_1776 : decode cL_law 1776 = .ok (.iconst 1, 1) := by decide +kernel
theorem dL_law_1777 : decode cL_law 1777 = .ok (.iadd, 1) := by decide +kernel
theorem dL_law_1778 : decode cL_law 1778 = .ok (.iaload, 1) := by decide +kernel
theorem dL_law_1779 : decode cL_law 1779 = .ok (.aload_n 0, 1) := by decide +kernel
theorem dL_law_1780 : decode cL_law 1780 = .ok (.iload_n 3, 1) := by decide +kernel
theorem dL_law_1781 : decode cL_law 1781 = .ok (.iconst 2, 1) := by decide +kernel
theorem dL_law_1782 : decode cL_law 1782 = .ok (.iadd, 1) := by decide +kernel
theorem dL_law_1783 : decode cL_law 1783 = .ok (.iaload, 1) := by decide +kernel
theorem dL_law_1784 : decode cL_law 1784 = .ok (.invokevirtual 202, 3) := by decide +kernel
theorem dL_law_1787 : decode cL_law 1787 = .ok (.aload_n 2, 1) := by decide +kernel
theorem dL_law_1788 : decode cL_law 1788 = .ok (.aload_n 0, 1) := by decide +kernel
theorem dL_law_1789 : decode cL_law 1789 = .ok (.iload_n 3, 1) := by decide +kernel
theorem dL_law_1790 : decode cL_law 1790 = .ok (.iconst 1, 1) := by decide +kernel
theorem dL_law_1791 : decode cL_law 1791 = .ok (.iadd, 1) := by decide +kernel
theorem dL_law_1792 : decode cL_law 1792 = .ok (.iaload, 1) := by decide +kernel
theorem dL_law_1793 : decode cL_law 1793 = .ok (.aload_n 0, 1) := by decide +kernel
theorem dL_law_1794 : decode cL_law 1794 = .ok (.iload_n 3, 1) := by decide +kernel
theorem dL_law_1795 : decode cL_law 1795 = .ok (.iconst 2, 1) := by decide +kernel
theorem dL_law_1796 : decode cL_law 1796 = .ok (.iadd, 1) := by decide +kernel
theorem dL_law_1797 : decode cL_law 1797 = .ok (.iaload, 1) := by decide +kernel
theorem dL_law_1798 : decode cL_law 1798 = .ok (.invokevirtual 205, 3) := by decide +kernel
theorem dL_law_1801 : decode cL_law 1801 = .ok (.if_icmp .eq 100, 3) := by decide +kernel
theorem dL_law_1804 : decode cL_law 1804 = .ok (.iconst 0, 1) := by decide +kernel
theorem dL_law_1805 : decode cL_law 1805 = .ok (.ireturn, 1) := by decide +kernel
theorem dL_law_1806 : decode cL_law 1806 = .ok (.aload_n 1, 1) := by decide +kernel
theorem dL_law_1807 : decode cL_law 1807 = .ok (.aload_n 0, 1) := by decide +kernel
theorem dL_law_1808 : decode cL_law 1808 = .ok (.iload_n 3, 1) := by decide +kernel
theorem dL_law_1809 : decode cL_law 1809 = .ok (.iconst 1, 1) := by decide +kernel
theorem dL_law_1810 : decode cL_law 1810 = .ok (.iadd, 1) := by decide +kernel
theorem dL_law_1811 : decode cL_law 1811 = .ok (.iaload, 1) := by decide +kernel
theorem dL_law_1812 : decode cL_law 1812 = .ok (.invokevirtual 206, 3) := by decide +kernel
theorem dL_law_1815 : decode cL_law 1815 = .ok (.aload_n 2, 1) := by decide +kernel
theorem dL_law_1816 : decode cL_law 1816 = .ok (.aload_n 0, 1) := by decide +kernel
theorem dL_law_1817 : decode cL_law 1817 = .ok (.iload_n 3, 1) := by decide +kernel
theorem dL_law_1818 : decode cL_law 1818 = .ok (.iconst 1, 1) := by decide +kernel
theorem dL_law_1819 : decode cL_law 1819 = .ok (.iadd, 1) := by decide +kernel
theorem dL_law_1820 : decode cL_law 1820 = .ok (.iaload, 1) := by decide +kernel
theorem dL_law_1821 : decode cL_law 1821 = .ok (.invokevirtual 209, 3) := by decide +kernel
theorem dL_law_1824 : decode cL_law 1824 = .ok (.if_icmp .eq 77, 3) := by decide +kernel
theorem dL_law_1827 : decode cL_law 1827 = .ok (.iconst 0, 1) := by decide +kernel
theorem dL_law_1828 : decode cL_law 1828 = .ok (.ireturn, 1) := by decide +kernel
theorem dL_law_1829 : decode cL_law 1829 = .ok (.aload_n 1, 1) := by decide +kernel
theorem dL_law_1830 : decode cL_law 1830 = .ok (.aload_n 0, 1) := by decide +kernel
theorem dL_law_1831 : decode cL_law 1831 = .ok (.iload_n 3, 1) := by decide +kernel
theorem dL_law_1832 : decode cL_law 1832 = .ok (.iconst 1, 1) := by decide +kernel
theorem dL_law_1833 : decode cL_law 1833 = .ok (.iadd, 1) := by decide +kernel
theorem dL_law_1834 : decode cL_law 1834 = .ok (.iaload, 1) := by decide +kernel
theorem dL_law_1835 : decode cL_law 1835 = .ok (.aload_n 0, 1) := by decide +kernel
theorem dL_law_1836 : decode cL_law 1836 = .ok (.iload_n 3, 1) := by decide +kernel
theorem dL_law_1837 : decode cL_law 1837 = .ok (.iconst 2, 1) := by decide +kernel
theorem dL_law_1838 : decode cL_law 1838 = .ok (.iadd, 1) := by decide +kernel
theorem dL_law_1839 : decode cL_law 1839 = .ok (.iaload, 1) := by decide +kernel
theorem dL_law_1840 : decode cL_law 1840 = .ok (.ifCond .eq 7, 3) := by decide +kernel
theorem dL_law_1843 : decode cL_law 1843 = .ok (.iconst 1, 1) := by decide +kernel
theorem dL_law_1844 : decode cL_law 1844 = .ok (.goto 4, 3) := by decide +kernel
theorem dL_law_1847 : decode cL_law 1847 = .ok (.iconst 0, 1) := by decide +kernel
theorem dL_law_1848 : decode cL_law 1848 = .ok (.invokevirtual 210, 3) := by decide +kernel
theorem dL_law_1851 : decode cL_law 1851 = .ok (.aload_n 2, 1) := by decide +kernel
theorem dL_law_1852 : decode cL_law 1852 = .ok (.aload_n 0, 1) := by decide +kernel
theorem dL_law_1853 : decode cL_law 1853 = .ok (.iload_n 3, 1) := by decide +kernel
theorem dL_law_1854 : decode cL_law 1854 = .ok (.iconst 1, 1) := by decide +kernel
theorem dL_law_1855 : decode cL_law 1855 = .ok (.iadd, 1) := by decide +kernel
theorem dL_law_1856 : decode cL_law 1856 = .ok (.iaload, 1) := by decide +kernel
theorem dL_law_1857 : decode cL_law 1857 = .ok (.aload_n 0, 1) := by decide +kernel
theorem dL_law_1858 : decode cL_law 1858 = .ok (.iload_n 3, 1) := by decide +kernel
theorem dL_law_1859 : decode cL_law 1859 = .ok (.iconst 2, 1) := by decide +kernel
theorem dL_law_1860 : decode cL_law 1860 = .ok (.iadd, 1) := by decide +kernel
theorem dL_law_1861 : decode cL_law 1861 = .ok (.iaload, 1) := by decide +kernel
theorem dL_law_1862 : decode cL_law 1862 = .ok (.ifCond .eq 7, 3) := by decide +kernel
theorem dL_law_1865 : decode cL_law 1865 = .ok (.iconst 1, 1) := by decide +kernel
theorem dL_law_1866 : decode cL_law 1866 = .ok (.goto 4, 3) := by decide +kernel
theorem dL_law_1869 : decode cL_law 1869 = .ok (.iconst 0, 1) := by decide +kernel
theorem dL_law_1870 : decode cL_law 1870 = .ok (.invokevirtual 213, 3) := by decide +kernel
theorem dL_law_1873 : decode cL_law 1873 = .ok (.if_icmp .eq 28, 3) := by decide +kernel
theorem dL_law_1876 : decode cL_law 1876 = .ok (.iconst 0, 1) := by decide +kernel
theorem dL_law_1877 : decode cL_law 1877 = .ok (.ireturn, 1) := by decide +kernel
theorem dL_law_1878 : decode cL_law 1878 = .ok (.aload_n 1, 1) := by decide +kernel
theorem dL_law_1879 : decode cL_law 1879 = .ok (.aload_n 0, 1) := by decide +kernel
theorem dL_law_1880 : decode cL_law 1880 = .ok (.iload_n 3, 1) := by decide +kernel
theorem dL_law_1881 : decode cL_law 1881 = .ok (.iconst 1, 1) := by decide +kernel
theorem dL_law_1882 : decode cL_law 1882 = .ok (.iadd, 1) := by decide +kernel
theorem dL_law_1883 : decode cL_law 1883 = .ok (.iaload, 1) := by decide +kernel
theorem dL_law_1884 : decode cL_law 1884 = .ok (.invokevirtual 214, 3) := by decide +kernel
theorem dL_law_1887 : decode cL_law 1887 = .ok (.aload_n 2, 1) := by decide +kernel
theorem dL_law_1888 : decode cL_law 1888 = .ok (.aload_n 0, 1) := by decide +kernel
theorem dL_law_1889 : decode cL_law 1889 = .ok (.iload_n 3, 1) := by decide +kernel
theorem dL_law_1890 : decode cL_law 1890 = .ok (.iconst 1, 1) := by decide +kernel
theorem dL_law_1891 : decode cL_law 1891 = .ok (.iadd, 1) := by decide +kernel
theorem dL_law_1892 : decode cL_law 1892 = .ok (.iaload, 1) := by decide +kernel
theorem dL_law_1893 : decode cL_law 1893 = .ok (.invokevirtual 217, 3) := by decide +kernel
theorem dL_law_1896 : decode cL_law 1896 = .ok (.if_icmp .eq 5, 3) := by decide +kernel
theorem dL_law_1899 : decode cL_law 1899 = .ok (.iconst 0, 1) := by decide +kernel
theorem dL_law_1900 : decode cL_law 1900 = .ok (.ireturn, 1) := by decide +kernel
theorem dL_law_1901 : decode cL_law 1901 = .ok (.iinc 3 10, 3) := by decide +kernel
theorem dL_law_1904 : decode cL_law 1904 = .ok (.goto (-1886), 3) := by decide +kernel
theorem dL_law_1907 : decode cL_law 1907 = .ok (.iconst 1, 1) := by decide +kernel
theorem dL_law_1908 : decode cL_law 1908 = .ok (.ireturn, 1) := by decide +kernel
