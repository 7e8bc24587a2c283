theorem q71 : (Jvm.Cond.initialized "LevelCellarsLaw") ∈ lw_all := lw_g (lw_at lw_m1 0 rfl) rfl
set_option maxRecDepth 100000
theorem q104 : (Jvm.Cond.classLink "LevelCellarsLaw" (7 : Nat) "LevelCellars") ∈ lw_all := lw_g (lw_at lw_m1 33 rfl) rfl
theorem q106 : (Jvm.Cond.methodLink "LevelCellarsLaw" (9 : Nat) ({ cls := "LevelCellars", name := "<init>", desc := "()V" } : Jvm.MethodName)) ∈ lw_all := lw_g (lw_at lw_m1 35 rfl) rfl
theorem q262 : (Jvm.Cond.methodLink "LevelCellarsLaw" (13 : Nat) ({ cls := "LevelCellars", name := "cellar", desc := "(III)I" } : Jvm.MethodName)) ∈ lw_all := lw_g (lw_at lw_m1 191 rfl) rfl
theorem q377 : (Jvm.Cond.methodLink "LevelCellarsLaw" (18 : Nat) ({ cls := "LevelCellars", name := "told", desc := "(II)I" } : Jvm.MethodName)) ∈ lw_all := lw_g (lw_at lw_m2 66 rfl) rfl
theorem q590 : (Jvm.Cond.methodLink "LevelCellarsLaw" (23 : Nat) ({ cls := "LevelCellars", name := "takes", desc := "(II)I" } : Jvm.MethodName)) ∈ lw_all := lw_g (lw_at lw_m3 39 rfl) rfl
theorem q612 : (Jvm.Cond.methodLink "LevelCellarsLaw" (27 : Nat) ({ cls := "LevelCellars", name := "as", desc := "(II)I" } : Jvm.MethodName)) ∈ lw_all := lw_g (lw_at lw_m3 61 rfl) rfl
theorem q707 : (Jvm.Cond.methodLink "LevelCellarsLaw" (31 : Nat) ({ cls := "LevelCellars", name := "turns", desc := "(II)I" } : Jvm.MethodName)) ∈ lw_all := lw_g (lw_at lw_m3 156 rfl) rfl
theorem q724 : (Jvm.Cond.methodLink "LevelCellarsLaw" (35 : Nat) ({ cls := "LevelCellars", name := "set", desc := "(III)I" } : Jvm.MethodName)) ∈ lw_all := lw_g (lw_at lw_m3 173 rfl) rfl
theorem q733 : (Jvm.Cond.methodLink "LevelCellarsLaw" (39 : Nat) ({ cls := "LevelCellars", name := "pipe", desc := "(III)I" } : Jvm.MethodName)) ∈ lw_all := lw_g (lw_at lw_m3 182 rfl) rfl
theorem q742 : (Jvm.Cond.methodLink "LevelCellarsLaw" (43 : Nat) ({ cls := "LevelCellars", name := "pipeOf", desc := "(II)I" } : Jvm.MethodName)) ∈ lw_all := lw_g (lw_at lw_m3 191 rfl) rfl
theorem q766 : (Jvm.Cond.methodLink "LevelCellarsLaw" (47 : Nat) ({ cls := "LevelCellars", name := "cork", desc := "(II)I" } : Jvm.MethodName)) ∈ lw_all := lw_g (lw_at lw_m3 215 rfl) rfl
theorem q770 : (Jvm.Cond.methodLink "LevelCellarsLaw" (51 : Nat) ({ cls := "LevelCellars", name := "thirst", desc := "(I)I" } : Jvm.MethodName)) ∈ lw_all := lw_g (lw_at lw_m3 219 rfl) rfl
theorem q775 : (Jvm.Cond.methodLink "LevelCellarsLaw" (56 : Nat) ({ cls := "LevelCellars", name := "deal", desc := "(I)I" } : Jvm.MethodName)) ∈ lw_all := lw_g (lw_at lw_m3 224 rfl) rfl
theorem q785 : (Jvm.Cond.methodLink "LevelCellarsLaw" (60 : Nat) ({ cls := "LevelCellars", name := "seed", desc := "(I)I" } : Jvm.MethodName)) ∈ lw_all := lw_g (lw_at lw_m3 234 rfl) rfl
theorem q789 : (Jvm.Cond.methodLink "LevelCellarsLaw" (64 : Nat) ({ cls := "LevelCellars", name := "hours", desc := "(I)I" } : Jvm.MethodName)) ∈ lw_all := lw_g (lw_at lw_m3 238 rfl) rfl
theorem q812 : (Jvm.Cond.methodLink "LevelCellarsLaw" (68 : Nat) ({ cls := "LevelCellars", name := "town", desc := "(I)I" } : Jvm.MethodName)) ∈ lw_all := lw_g (lw_at lw_m4 21 rfl) rfl
theorem q830 : (Jvm.Cond.methodLink "LevelCellarsLaw" (72 : Nat) ({ cls := "LevelCellars", name := "behind", desc := "(II)I" } : Jvm.MethodName)) ∈ lw_all := lw_g (lw_at lw_m4 39 rfl) rfl
theorem q854 : (Jvm.Cond.methodLink "LevelCellarsLaw" (76 : Nat) ({ cls := "LevelCellars", name := "taste", desc := "(III)I" } : Jvm.MethodName)) ∈ lw_all := lw_g (lw_at lw_m4 63 rfl) rfl
theorem q859 : (Jvm.Cond.methodLink "LevelCellarsLaw" (80 : Nat) ({ cls := "LevelCellars", name := "rests", desc := "()I" } : Jvm.MethodName)) ∈ lw_all := lw_g (lw_at lw_m4 68 rfl) rfl
theorem q864 : (Jvm.Cond.methodLink "LevelCellarsLaw" (85 : Nat) ({ cls := "LevelCellars", name := "corks", desc := "(III)I" } : Jvm.MethodName)) ∈ lw_all := lw_g (lw_at lw_m4 73 rfl) rfl
theorem q872 : (Jvm.Cond.methodLink "LevelCellarsLaw" (89 : Nat) ({ cls := "LevelCellars", name := "dig", desc := "(II)I" } : Jvm.MethodName)) ∈ lw_all := lw_g (lw_at lw_m4 81 rfl) rfl
theorem q885 : (Jvm.Cond.methodLink "LevelCellarsLaw" (93 : Nat) ({ cls := "LevelCellars", name := "loser", desc := "(II)I" } : Jvm.MethodName)) ∈ lw_all := lw_g (lw_at lw_m4 94 rfl) rfl
theorem q889 : (Jvm.Cond.methodLink "LevelCellarsLaw" (97 : Nat) ({ cls := "LevelCellars", name := "tap", desc := "(II)I" } : Jvm.MethodName)) ∈ lw_all := lw_g (lw_at lw_m4 98 rfl) rfl
theorem q903 : (Jvm.Cond.methodLink "LevelCellarsLaw" (101 : Nat) ({ cls := "LevelCellars", name := "dug", desc := "(III)I" } : Jvm.MethodName)) ∈ lw_all := lw_g (lw_at lw_m4 112 rfl) rfl
theorem q928 : (Jvm.Cond.methodLink "LevelCellarsLaw" (105 : Nat) ({ cls := "LevelCellars", name := "fee", desc := "()I" } : Jvm.MethodName)) ∈ lw_all := lw_g (lw_at lw_m4 137 rfl) rfl
theorem q933 : (Jvm.Cond.methodLink "LevelCellarsLaw" (109 : Nat) ({ cls := "LevelCellars", name := "fine", desc := "(I)I" } : Jvm.MethodName)) ∈ lw_all := lw_g (lw_at lw_m4 142 rfl) rfl
theorem q937 : (Jvm.Cond.methodLink "LevelCellarsLaw" (113 : Nat) ({ cls := "LevelCellars", name := "feed", desc := "(III)I" } : Jvm.MethodName)) ∈ lw_all := lw_g (lw_at lw_m4 146 rfl) rfl
theorem q941 : (Jvm.Cond.methodLink "LevelCellarsLaw" (117 : Nat) ({ cls := "LevelCellars", name := "trim", desc := "(I)I" } : Jvm.MethodName)) ∈ lw_all := lw_g (lw_at lw_m4 150 rfl) rfl
theorem q945 : (Jvm.Cond.methodLink "LevelCellarsLaw" (121 : Nat) ({ cls := "LevelCellars", name := "text", desc := "()I" } : Jvm.MethodName)) ∈ lw_all := lw_g (lw_at lw_m4 154 rfl) rfl
theorem q1150 : (Jvm.Cond.methodLink "LevelCellarsLaw" (125 : Nat) ({ cls := "LevelCellars", name := "textTold", desc := "(II)I" } : Jvm.MethodName)) ∈ lw_all := lw_g (lw_at lw_m5 119 rfl) rfl
theorem q1154 : (Jvm.Cond.methodLink "LevelCellarsLaw" (129 : Nat) ({ cls := "LevelCellars", name := "why", desc := "(I)I" } : Jvm.MethodName)) ∈ lw_all := lw_g (lw_at lw_m5 123 rfl) rfl
theorem q1158 : (Jvm.Cond.methodLink "LevelCellarsLaw" (133 : Nat) ({ cls := "LevelCellars", name := "sheet", desc := "(III)I" } : Jvm.MethodName)) ∈ lw_all := lw_g (lw_at lw_m5 127 rfl) rfl
theorem q1180 : (Jvm.Cond.methodLink "LevelCellarsLaw" (137 : Nat) ({ cls := "LevelCellars", name := "mark", desc := "(III)I" } : Jvm.MethodName)) ∈ lw_all := lw_g (lw_at lw_m5 149 rfl) rfl
theorem q1252 : (Jvm.Cond.methodLink "LevelCellarsLaw" (141 : Nat) ({ cls := "LevelCellars", name := "pour", desc := "(I)I" } : Jvm.MethodName)) ∈ lw_all := lw_g (lw_at lw_m5 221 rfl) rfl
theorem q1257 : (Jvm.Cond.methodLink "LevelCellarsLaw" (145 : Nat) ({ cls := "LevelCellars", name := "reads", desc := "(I)I" } : Jvm.MethodName)) ∈ lw_all := lw_g (lw_at lw_m5 226 rfl) rfl
theorem q1261 : (Jvm.Cond.methodLink "LevelCellarsLaw" (149 : Nat) ({ cls := "LevelCellars", name := "copy", desc := "(IIIII)I" } : Jvm.MethodName)) ∈ lw_all := lw_g (lw_at lw_m5 230 rfl) rfl
theorem q1266 : (Jvm.Cond.methodLink "LevelCellarsLaw" (154 : Nat) ({ cls := "LevelCellars", name := "lay", desc := "(III)I" } : Jvm.MethodName)) ∈ lw_all := lw_g (lw_at lw_m5 235 rfl) rfl
theorem q1292 : (Jvm.Cond.methodLink "LevelCellarsLaw" (158 : Nat) ({ cls := "LevelCellars", name := "ask", desc := "(II)I" } : Jvm.MethodName)) ∈ lw_all := lw_g (lw_at lw_m6 21 rfl) rfl
theorem q1324 : (Jvm.Cond.methodLink "LevelCellarsLaw" (162 : Nat) ({ cls := "LevelCellars", name := "item", desc := "(II)I" } : Jvm.MethodName)) ∈ lw_all := lw_g (lw_at lw_m6 53 rfl) rfl
theorem q1328 : (Jvm.Cond.methodLink "LevelCellarsLaw" (166 : Nat) ({ cls := "LevelCellars", name := "rest", desc := "(II)I" } : Jvm.MethodName)) ∈ lw_all := lw_g (lw_at lw_m6 57 rfl) rfl
theorem q1347 : (Jvm.Cond.methodLink "LevelCellarsLaw" (170 : Nat) ({ cls := "LevelCellars", name := "tell", desc := "(I)I" } : Jvm.MethodName)) ∈ lw_all := lw_g (lw_at lw_m6 76 rfl) rfl
theorem q1351 : (Jvm.Cond.methodLink "LevelCellarsLaw" (174 : Nat) ({ cls := "LevelCellars", name := "check", desc := "(I)I" } : Jvm.MethodName)) ∈ lw_all := lw_g (lw_at lw_m6 80 rfl) rfl
theorem q1360 : (Jvm.Cond.methodLink "LevelCellarsLaw" (178 : Nat) ({ cls := "LevelCellars", name := "keep", desc := "()I" } : Jvm.MethodName)) ∈ lw_all := lw_g (lw_at lw_m6 89 rfl) rfl
theorem q1364 : (Jvm.Cond.methodLink "LevelCellarsLaw" (182 : Nat) ({ cls := "LevelCellars", name := "back", desc := "()I" } : Jvm.MethodName)) ∈ lw_all := lw_g (lw_at lw_m6 93 rfl) rfl
theorem q1368 : (Jvm.Cond.methodLink "LevelCellarsLaw" (186 : Nat) ({ cls := "LevelCellars", name := "count", desc := "(I)I" } : Jvm.MethodName)) ∈ lw_all := lw_g (lw_at lw_m6 97 rfl) rfl
theorem q1376 : (Jvm.Cond.classLink "LevelCellarsLaw" (10 : Nat) "LevelCellarsModel") ∈ lw_all := lw_g (lw_at lw_m6 105 rfl) rfl
theorem q1378 : (Jvm.Cond.methodLink "LevelCellarsLaw" (12 : Nat) ({ cls := "LevelCellarsModel", name := "<init>", desc := "()V" } : Jvm.MethodName)) ∈ lw_all := lw_g (lw_at lw_m6 107 rfl) rfl
theorem q1489 : (Jvm.Cond.methodLink "LevelCellarsLaw" (17 : Nat) ({ cls := "LevelCellarsModel", name := "cellar", desc := "(III)I" } : Jvm.MethodName)) ∈ lw_all := lw_g (lw_at lw_m6 218 rfl) rfl
theorem q1502 : (Jvm.Cond.methodLink "LevelCellarsLaw" (22 : Nat) ({ cls := "LevelCellarsModel", name := "told", desc := "(II)I" } : Jvm.MethodName)) ∈ lw_all := lw_g (lw_at lw_m6 231 rfl) rfl
theorem q1548 : (Jvm.Cond.methodLink "LevelCellarsLaw" (26 : Nat) ({ cls := "LevelCellarsModel", name := "takes", desc := "(II)I" } : Jvm.MethodName)) ∈ lw_all := lw_g (lw_at lw_m7 37 rfl) rfl
theorem q1556 : (Jvm.Cond.methodLink "LevelCellarsLaw" (30 : Nat) ({ cls := "LevelCellarsModel", name := "as", desc := "(II)I" } : Jvm.MethodName)) ∈ lw_all := lw_g (lw_at lw_m7 45 rfl) rfl
theorem q1564 : (Jvm.Cond.methodLink "LevelCellarsLaw" (34 : Nat) ({ cls := "LevelCellarsModel", name := "turns", desc := "(II)I" } : Jvm.MethodName)) ∈ lw_all := lw_g (lw_at lw_m7 53 rfl) rfl
theorem q1572 : (Jvm.Cond.methodLink "LevelCellarsLaw" (38 : Nat) ({ cls := "LevelCellarsModel", name := "set", desc := "(III)I" } : Jvm.MethodName)) ∈ lw_all := lw_g (lw_at lw_m7 61 rfl) rfl
theorem q1576 : (Jvm.Cond.methodLink "LevelCellarsLaw" (42 : Nat) ({ cls := "LevelCellarsModel", name := "pipe", desc := "(III)I" } : Jvm.MethodName)) ∈ lw_all := lw_g (lw_at lw_m7 65 rfl) rfl
theorem q1584 : (Jvm.Cond.methodLink "LevelCellarsLaw" (46 : Nat) ({ cls := "LevelCellarsModel", name := "pipeOf", desc := "(II)I" } : Jvm.MethodName)) ∈ lw_all := lw_g (lw_at lw_m7 73 rfl) rfl
theorem q1604 : (Jvm.Cond.methodLink "LevelCellarsLaw" (50 : Nat) ({ cls := "LevelCellarsModel", name := "cork", desc := "(II)I" } : Jvm.MethodName)) ∈ lw_all := lw_g (lw_at lw_m7 93 rfl) rfl
theorem q1608 : (Jvm.Cond.methodLink "LevelCellarsLaw" (55 : Nat) ({ cls := "LevelCellarsModel", name := "thirst", desc := "(I)I" } : Jvm.MethodName)) ∈ lw_all := lw_g (lw_at lw_m7 97 rfl) rfl
theorem q1612 : (Jvm.Cond.methodLink "LevelCellarsLaw" (59 : Nat) ({ cls := "LevelCellarsModel", name := "deal", desc := "(I)I" } : Jvm.MethodName)) ∈ lw_all := lw_g (lw_at lw_m7 101 rfl) rfl
theorem q1621 : (Jvm.Cond.methodLink "LevelCellarsLaw" (63 : Nat) ({ cls := "LevelCellarsModel", name := "seed", desc := "(I)I" } : Jvm.MethodName)) ∈ lw_all := lw_g (lw_at lw_m7 110 rfl) rfl
theorem q1625 : (Jvm.Cond.methodLink "LevelCellarsLaw" (67 : Nat) ({ cls := "LevelCellarsModel", name := "hours", desc := "(I)I" } : Jvm.MethodName)) ∈ lw_all := lw_g (lw_at lw_m7 114 rfl) rfl
theorem q1649 : (Jvm.Cond.methodLink "LevelCellarsLaw" (71 : Nat) ({ cls := "LevelCellarsModel", name := "town", desc := "(I)I" } : Jvm.MethodName)) ∈ lw_all := lw_g (lw_at lw_m7 138 rfl) rfl
theorem q1661 : (Jvm.Cond.methodLink "LevelCellarsLaw" (75 : Nat) ({ cls := "LevelCellarsModel", name := "behind", desc := "(II)I" } : Jvm.MethodName)) ∈ lw_all := lw_g (lw_at lw_m7 150 rfl) rfl
theorem q1673 : (Jvm.Cond.methodLink "LevelCellarsLaw" (79 : Nat) ({ cls := "LevelCellarsModel", name := "taste", desc := "(III)I" } : Jvm.MethodName)) ∈ lw_all := lw_g (lw_at lw_m7 162 rfl) rfl
theorem q1677 : (Jvm.Cond.methodLink "LevelCellarsLaw" (84 : Nat) ({ cls := "LevelCellarsModel", name := "rests", desc := "()I" } : Jvm.MethodName)) ∈ lw_all := lw_g (lw_at lw_m7 166 rfl) rfl
theorem q1682 : (Jvm.Cond.methodLink "LevelCellarsLaw" (88 : Nat) ({ cls := "LevelCellarsModel", name := "corks", desc := "(III)I" } : Jvm.MethodName)) ∈ lw_all := lw_g (lw_at lw_m7 171 rfl) rfl
theorem q1686 : (Jvm.Cond.methodLink "LevelCellarsLaw" (92 : Nat) ({ cls := "LevelCellarsModel", name := "dig", desc := "(II)I" } : Jvm.MethodName)) ∈ lw_all := lw_g (lw_at lw_m7 175 rfl) rfl
theorem q1694 : (Jvm.Cond.methodLink "LevelCellarsLaw" (96 : Nat) ({ cls := "LevelCellarsModel", name := "loser", desc := "(II)I" } : Jvm.MethodName)) ∈ lw_all := lw_g (lw_at lw_m7 183 rfl) rfl
theorem q1698 : (Jvm.Cond.methodLink "LevelCellarsLaw" (100 : Nat) ({ cls := "LevelCellarsModel", name := "tap", desc := "(II)I" } : Jvm.MethodName)) ∈ lw_all := lw_g (lw_at lw_m7 187 rfl) rfl
theorem q1706 : (Jvm.Cond.methodLink "LevelCellarsLaw" (104 : Nat) ({ cls := "LevelCellarsModel", name := "dug", desc := "(III)I" } : Jvm.MethodName)) ∈ lw_all := lw_g (lw_at lw_m7 195 rfl) rfl
theorem q1721 : (Jvm.Cond.methodLink "LevelCellarsLaw" (108 : Nat) ({ cls := "LevelCellarsModel", name := "fee", desc := "()I" } : Jvm.MethodName)) ∈ lw_all := lw_g (lw_at lw_m7 210 rfl) rfl
theorem q1725 : (Jvm.Cond.methodLink "LevelCellarsLaw" (112 : Nat) ({ cls := "LevelCellarsModel", name := "fine", desc := "(I)I" } : Jvm.MethodName)) ∈ lw_all := lw_g (lw_at lw_m7 214 rfl) rfl
theorem q1729 : (Jvm.Cond.methodLink "LevelCellarsLaw" (116 : Nat) ({ cls := "LevelCellarsModel", name := "feed", desc := "(III)I" } : Jvm.MethodName)) ∈ lw_all := lw_g (lw_at lw_m7 218 rfl) rfl
theorem q1733 : (Jvm.Cond.methodLink "LevelCellarsLaw" (120 : Nat) ({ cls := "LevelCellarsModel", name := "trim", desc := "(I)I" } : Jvm.MethodName)) ∈ lw_all := lw_g (lw_at lw_m7 222 rfl) rfl
theorem q1737 : (Jvm.Cond.methodLink "LevelCellarsLaw" (124 : Nat) ({ cls := "LevelCellarsModel", name := "text", desc := "()I" } : Jvm.MethodName)) ∈ lw_all := lw_g (lw_at lw_m7 226 rfl) rfl
theorem q1784 : (Jvm.Cond.methodLink "LevelCellarsLaw" (128 : Nat) ({ cls := "LevelCellarsModel", name := "textTold", desc := "(II)I" } : Jvm.MethodName)) ∈ lw_all := lw_g (lw_at lw_m8 33 rfl) rfl
theorem q1788 : (Jvm.Cond.methodLink "LevelCellarsLaw" (132 : Nat) ({ cls := "LevelCellarsModel", name := "why", desc := "(I)I" } : Jvm.MethodName)) ∈ lw_all := lw_g (lw_at lw_m8 37 rfl) rfl
theorem q1792 : (Jvm.Cond.methodLink "LevelCellarsLaw" (136 : Nat) ({ cls := "LevelCellarsModel", name := "sheet", desc := "(III)I" } : Jvm.MethodName)) ∈ lw_all := lw_g (lw_at lw_m8 41 rfl) rfl
theorem q1797 : (Jvm.Cond.methodLink "LevelCellarsLaw" (140 : Nat) ({ cls := "LevelCellarsModel", name := "mark", desc := "(III)I" } : Jvm.MethodName)) ∈ lw_all := lw_g (lw_at lw_m8 46 rfl) rfl
theorem q1804 : (Jvm.Cond.methodLink "LevelCellarsLaw" (144 : Nat) ({ cls := "LevelCellarsModel", name := "pour", desc := "(I)I" } : Jvm.MethodName)) ∈ lw_all := lw_g (lw_at lw_m8 53 rfl) rfl
theorem q1808 : (Jvm.Cond.methodLink "LevelCellarsLaw" (148 : Nat) ({ cls := "LevelCellarsModel", name := "reads", desc := "(I)I" } : Jvm.MethodName)) ∈ lw_all := lw_g (lw_at lw_m8 57 rfl) rfl
theorem q1812 : (Jvm.Cond.methodLink "LevelCellarsLaw" (153 : Nat) ({ cls := "LevelCellarsModel", name := "copy", desc := "(IIIII)I" } : Jvm.MethodName)) ∈ lw_all := lw_g (lw_at lw_m8 61 rfl) rfl
theorem q1816 : (Jvm.Cond.methodLink "LevelCellarsLaw" (157 : Nat) ({ cls := "LevelCellarsModel", name := "lay", desc := "(III)I" } : Jvm.MethodName)) ∈ lw_all := lw_g (lw_at lw_m8 65 rfl) rfl
theorem q1823 : (Jvm.Cond.methodLink "LevelCellarsLaw" (161 : Nat) ({ cls := "LevelCellarsModel", name := "ask", desc := "(II)I" } : Jvm.MethodName)) ∈ lw_all := lw_g (lw_at lw_m8 72 rfl) rfl
theorem q1827 : (Jvm.Cond.methodLink "LevelCellarsLaw" (165 : Nat) ({ cls := "LevelCellarsModel", name := "item", desc := "(II)I" } : Jvm.MethodName)) ∈ lw_all := lw_g (lw_at lw_m8 76 rfl) rfl
theorem q1831 : (Jvm.Cond.methodLink "LevelCellarsLaw" (169 : Nat) ({ cls := "LevelCellarsModel", name := "rest", desc := "(II)I" } : Jvm.MethodName)) ∈ lw_all := lw_g (lw_at lw_m8 80 rfl) rfl
theorem q1836 : (Jvm.Cond.methodLink "LevelCellarsLaw" (173 : Nat) ({ cls := "LevelCellarsModel", name := "tell", desc := "(I)I" } : Jvm.MethodName)) ∈ lw_all := lw_g (lw_at lw_m8 85 rfl) rfl
theorem q1840 : (Jvm.Cond.methodLink "LevelCellarsLaw" (177 : Nat) ({ cls := "LevelCellarsModel", name := "check", desc := "(I)I" } : Jvm.MethodName)) ∈ lw_all := lw_g (lw_at lw_m8 89 rfl) rfl
theorem q1847 : (Jvm.Cond.methodLink "LevelCellarsLaw" (181 : Nat) ({ cls := "LevelCellarsModel", name := "keep", desc := "()I" } : Jvm.MethodName)) ∈ lw_all := lw_g (lw_at lw_m8 96 rfl) rfl
theorem q1851 : (Jvm.Cond.methodLink "LevelCellarsLaw" (185 : Nat) ({ cls := "LevelCellarsModel", name := "back", desc := "()I" } : Jvm.MethodName)) ∈ lw_all := lw_g (lw_at lw_m8 100 rfl) rfl
theorem q1855 : (Jvm.Cond.methodLink "LevelCellarsLaw" (189 : Nat) ({ cls := "LevelCellarsModel", name := "count", desc := "(I)I" } : Jvm.MethodName)) ∈ lw_all := lw_g (lw_at lw_m8 104 rfl) rfl
theorem q1298 : (Jvm.Cond.interfaceMethod "LevelCellars$Weighs" "LevelCellars$Weighs" "worth" "()I") ∈ lw_tbl := lw_at lw_m6 27 rfl
set_option maxRecDepth 100000
theorem q1299 : (Jvm.Cond.declares ({ cls := "LevelCellars$Weighs", name := "worth", desc := "()I" } : Jvm.MethodName)) ∈ lw_tbl := lw_at lw_m6 28 rfl
theorem q463 : (Jvm.Cond.interfaceMethod "LevelCellars$Worth" "LevelCellars$Worth" "worth" "()I") ∈ lw_tbl := lw_at lw_m2 152 rfl
set_option maxRecDepth 100000
theorem q464 : (Jvm.Cond.declares ({ cls := "LevelCellars$Worth", name := "worth", desc := "()I" } : Jvm.MethodName)) ∈ lw_tbl := lw_at lw_m2 153 rfl
theorem q89 : (Jvm.Cond.initialized "java/lang/System") ∈ lw_all := lw_g (lw_at lw_m1 18 rfl) rfl
set_option maxRecDepth 100000
theorem q722 : (Jvm.Cond.static ({ cls := "java/lang/System", name := "arraycopy", desc := "(Ljava/lang/Object;ILjava/lang/Object;II)V" } : Jvm.MethodName)) ∈ lw_all := lw_g (lw_at lw_m3 171 rfl) rfl
theorem q723 : (Jvm.Cond.native ({ cls := "java/lang/System", name := "arraycopy", desc := "(Ljava/lang/Object;ILjava/lang/Object;II)V" } : Jvm.MethodName)) ∈ lw_all := lw_g (lw_at lw_m3 172 rfl) rfl
theorem q119 : (Jvm.Cond.arrayOver (Jvm.ClassFile.FieldType.object "LevelCellars$Cellar")) ∈ lw_tbl := lw_at lw_m1 48 rfl
set_option maxRecDepth 100000
theorem q121 : (Jvm.Cond.arrayOver (Jvm.ClassFile.FieldType.object "LevelCellars$Text")) ∈ lw_tbl := lw_at lw_m1 50 rfl
theorem q178 : (Jvm.Cond.arrayClass Jvm.ClassFile.FieldType.int) ∈ lw_all := lw_g (lw_at lw_m1 107 rfl) rfl
theorem q179 : (Jvm.Cond.arrayClass Jvm.ClassFile.FieldType.boolean) ∈ lw_all := lw_g (lw_at lw_m1 108 rfl) rfl
theorem q181 : (Jvm.Cond.arrayOver (Jvm.ClassFile.FieldType.object "LevelCellars$Holder")) ∈ lw_tbl := lw_at lw_m1 110 rfl
theorem q191 : (Jvm.Cond.arrayClass Jvm.ClassFile.FieldType.byte) ∈ lw_all := lw_g (lw_at lw_m1 120 rfl) rfl
theorem q1178 : (Jvm.Cond.arrayClass Jvm.ClassFile.FieldType.short) ∈ lw_all := lw_g (lw_at lw_m5 147 rfl) rfl
theorem q1179 : (Jvm.Cond.arrayClass Jvm.ClassFile.FieldType.float) ∈ lw_all := lw_g (lw_at lw_m5 148 rfl) rfl
theorem q1488 : (Jvm.Cond.arrayClass Jvm.ClassFile.FieldType.char) ∈ lw_all := lw_g (lw_at lw_m6 217 rfl) rfl
/-! java/lang/Math -/
set_option maxRecDepth 100000
def RJ0 : String := "java/lang/Math"
abbrev cJ0_max : ByteArray := prog_28_method_65_code
def yJ0_max : MethodName := ⟨RJ0, "max", "(II)I"⟩
def dkwJ0_max_0 : List UInt8 := [26, 27, 161, 0, 7, 26, 167, 0, 4, 27, 172]
abbrev dktJ0_max_0 : List UInt8 := dkwJ0_max_0 ++ []
theorem dksJ0_max_0 : cJ0_max.data.toList.drop 0 = dktJ0_max_0 := by decide +kernel
theorem dJ0_max_0 : decode cJ0_max 0 = .ok (.iload_n 0, 1) := dk_26 (dk_at dksJ0_max_0 0 rfl rfl)
theorem dJ0_max_1 : decode cJ0_max 1 = .ok (.iload_n 1, 1) := dk_27 (dk_at dksJ0_max_0 1 rfl rfl)
theorem dJ0_max_2 : decode cJ0_max 2 = .ok (.if_icmp .lt 7, 3) := dk_161 0 7 (dk_at dksJ0_max_0 2 rfl rfl)
theorem dJ0_max_5 : decode cJ0_max 5 = .ok (.iload_n 0, 1) := dk_26 (dk_at dksJ0_max_0 5 rfl rfl)
theorem dJ0_max_6 : decode cJ0_max 6 = .ok (.goto 4, 3) := dk_167 0 4 (dk_at dksJ0_max_0 6 rfl rfl)
theorem dJ0_max_9 : decode cJ0_max 9 = .ok (.iload_n 1, 1) := dk_27 (dk_at dksJ0_max_0 9 rfl rfl)
theorem dJ0_max_10 : decode cJ0_max 10 = .ok (.ireturn, 1) := dk_172 (dk_at dksJ0_max_0 10 rfl rfl)
abbrev cJ0_min : ByteArray := prog_28_method_69_code
def yJ0_min : MethodName := ⟨RJ0, "min", "(II)I"⟩
def dkwJ0_min_0 : List UInt8 := [26, 27, 163, 0, 7, 26, 167, 0, 4, 27, 172]
abbrev dktJ0_min_0 : List UInt8 := dkwJ0_min_0 ++ []
theorem dksJ0_min_0 : cJ0_min.data.toList.drop 0 = dktJ0_min_0 := by decide +kernel
theorem dJ0_min_0 : decode cJ0_min 0 = .ok (.iload_n 0, 1) := dk_26 (dk_at dksJ0_min_0 0 rfl rfl)
theorem dJ0_min_1 : decode cJ0_min 1 = .ok (.iload_n 1, 1) := dk_27 (dk_at dksJ0_min_0 1 rfl rfl)
theorem dJ0_min_2 : decode cJ0_min 2 = .ok (.if_icmp .gt 7, 3) := dk_163 0 7 (dk_at dksJ0_min_0 2 rfl rfl)
theorem dJ0_min_5 : decode cJ0_min 5 = .ok (.iload_n 0, 1) := dk_26 (dk_at dksJ0_min_0 5 rfl rfl)
theorem dJ0_min_6 : decode cJ0_min 6 = .ok (.goto 4, 3) := dk_167 0 4 (dk_at dksJ0_min_0 6 rfl rfl)
theorem dJ0_min_9 : decode cJ0_min 9 = .ok (.iload_n 1, 1) := dk_27 (dk_at dksJ0_min_0 9 rfl rfl)
theorem dJ0_min_10 : decode cJ0_min 10 = .ok (.ireturn, 1) := dk_172 (dk_at dksJ0_min_0 10 rfl rfl)
abbrev cJ0_abs : ByteArray := prog_28_method_59_code
def yJ0_abs : MethodName := ⟨RJ0, "abs", "(I)I"⟩
def dkwJ0_abs_0 : List UInt8 := [26, 156, 0, 8, 26, 116, 167, 0, 4, 26, 172]
abbrev dktJ0_abs_0 : List UInt8 := dkwJ0_abs_0 ++ []
theorem dksJ0_abs_0 : cJ0_abs.data.toList.drop 0 = dktJ0_abs_0 := by decide +kernel
theorem dJ0_abs_0 : decode cJ0_abs 0 = .ok (.iload_n 0, 1) := dk_26 (dk_at dksJ0_abs_0 0 rfl rfl)
theorem dJ0_abs_1 : decode cJ0_abs 1 = .ok (.ifCond .ge 8, 3) := dk_156 0 8 (dk_at dksJ0_abs_0 1 rfl rfl)
theorem dJ0_abs_4 : decode cJ0_abs 4 = .ok (.iload_n 0, 1) := dk_26 (dk_at dksJ0_abs_0 4 rfl rfl)
theorem dJ0_abs_5 : decode cJ0_abs 5 = .ok (.ineg, 1) := dk_116 (dk_at dksJ0_abs_0 5 rfl rfl)
theorem dJ0_abs_6 : decode cJ0_abs 6 = .ok (.goto 4, 3) := dk_167 0 4 (dk_at dksJ0_abs_0 6 rfl rfl)
theorem dJ0_abs_9 : decode cJ0_abs 9 = .ok (.iload_n 0, 1) := dk_26 (dk_at dksJ0_abs_0 9 rfl rfl)
theorem dJ0_abs_10 : decode cJ0_abs 10 = .ok (.ireturn, 1) := dk_172 (dk_at dksJ0_abs_0 10 rfl rfl)
theorem q83 : (Jvm.Cond.initialized "java/lang/Math") ∈ lw_all := lw_g (lw_at lw_m1 12 rfl) rfl
theorem q449 : (Jvm.Cond.static ({ cls := "java/lang/Math", name := "max", desc := "(II)I" } : Jvm.MethodName)) ∈ lw_all := lw_g (lw_at lw_m2 138 rfl) rfl
theorem q450 : (Jvm.Cond.code ({ cls := "java/lang/Math", name := "max", desc := "(II)I" } : Jvm.MethodName) prog_28_method_65_code (2 : Nat) (Option.some Jvm.ClassFile.FieldType.int)) ∈ lw_all := lw_g (lw_at lw_m2 139 rfl) rfl
theorem q500 : (Jvm.Cond.static ({ cls := "java/lang/Math", name := "min", desc := "(II)I" } : Jvm.MethodName)) ∈ lw_all := lw_g (lw_at lw_m2 189 rfl) rfl
theorem q501 : (Jvm.Cond.code ({ cls := "java/lang/Math", name := "min", desc := "(II)I" } : Jvm.MethodName) prog_28_method_69_code (2 : Nat) (Option.some Jvm.ClassFile.FieldType.int)) ∈ lw_all := lw_g (lw_at lw_m2 190 rfl) rfl
theorem q762 : (Jvm.Cond.static ({ cls := "java/lang/Math", name := "abs", desc := "(I)I" } : Jvm.MethodName)) ∈ lw_all := lw_g (lw_at lw_m3 211 rfl) rfl
theorem q763 : (Jvm.Cond.code ({ cls := "java/lang/Math", name := "abs", desc := "(I)I" } : Jvm.MethodName) prog_28_method_59_code (1 : Nat) (Option.some Jvm.ClassFile.FieldType.int)) ∈ lw_all := lw_g (lw_at lw_m3 212 rfl) rfl
/-! java/lang/Throwable -/
set_option maxRecDepth 100000
def RJ1 : String := "java/lang/Throwable"
def TJ1 : u_T := fun k => match k with
  | 0 => ("java/lang/Throwable", "cause", "Ljava/lang/Throwable;", false)
  | 1 => ("java/lang/Throwable", "stackTrace", "[Ljava/lang/StackTraceElement;", false)
  | 2 => ("java/lang/Throwable", "suppressedExceptions", "Ljava/util/List;", false)
  | 3 => ("java/lang/Throwable", "detailMessage", "Ljava/lang/String;", false)
  | _ => ("java/lang/Throwable", "backtrace", "Ljava/lang/Object;", false)
def tyJ1 : Nat → FieldType := fun k => match k with
  | 0 => .object "java/lang/Throwable"
  | 1 => .array (.object "java/lang/StackTraceElement")
  | 2 => .object "java/util/List"
  | 3 => .object "java/lang/String"
  | _ => .object "java/lang/Object"
abbrev wsJ10 : List Cond := u_ws RJ1 TJ1 5
theorem nmJ1 : ∀ a, a < 5 → ∀ b, b < 5 → a ≠ b → (TJ1 a).2.1 ≠ (TJ1 b).2.1 := by decide +kernel
theorem tyJ1_ok : ∀ k, k < 5 → parseFieldDescriptor (TJ1 k).2.2.1 = some (tyJ1 k) := by decide +kernel
abbrev cJ1_init : ByteArray := prog_36_method_2_code
def yJ1_init : MethodName := ⟨RJ1, "<init>", "(Ljava/lang/String;)V"⟩
def dkwJ1_init_1 : List UInt8 := [182, 0, 27, 87, 42, 43, 181, 0, 31, 177]
abbrev dktJ1_init_1 : List UInt8 := dkwJ1_init_1 ++ []
def dkwJ1_init_0 : List UInt8 := [42, 183, 0, 1, 42, 42, 181, 0, 7, 42, 178, 0, 13, 181, 0, 17, 42, 178, 0, 20, 181, 0, 24, 42]
abbrev dktJ1_init_0 : List UInt8 := dkwJ1_init_0 ++ dktJ1_init_1
theorem dksJ1_init_0 : cJ1_init.data.toList.drop 0 = dktJ1_init_0 := by decide +kernel
theorem dksJ1_init_1 : cJ1_init.data.toList.drop 24 = dktJ1_init_1 := dk_seg dksJ1_init_0 24 rfl rfl
theorem dJ1_init_0 : decode cJ1_init 0 = .ok (.aload_n 0, 1) := dk_42 (dk_at dksJ1_init_0 0 rfl rfl)
theorem dJ1_init_1 : decode cJ1_init 1 = .ok (.invokespecial 1, 3) := dk_183 0 1 (dk_at dksJ1_init_0 1 rfl rfl)
theorem dJ1_init_4 : decode cJ1_init 4 = .ok (.aload_n 0, 1) := dk_42 (dk_at dksJ1_init_0 4 rfl rfl)
theorem dJ1_init_5 : decode cJ1_init 5 = .ok (.aload_n 0, 1) := dk_42 (dk_at dksJ1_init_0 5 rfl rfl)
theorem dJ1_init_6 : decode cJ1_init 6 = .ok (.putfield 7, 3) := dk_181 0 7 (dk_at dksJ1_init_0 6 rfl rfl)
theorem dJ1_init_9 : decode cJ1_init 9 = .ok (.aload_n 0, 1) := dk_42 (dk_at dksJ1_init_0 9 rfl rfl)
theorem dJ1_init_10 : decode cJ1_init 10 = .ok (.getstatic 13, 3) := dk_178 0 13 (dk_at dksJ1_init_0 10 rfl rfl)
theorem dJ1_init_13 : decode cJ1_init 13 = .ok (.putfield 17, 3) := dk_181 0 17 (dk_at dksJ1_init_0 13 rfl rfl)
theorem dJ1_init_16 : decode cJ1_init 16 = .ok (.aload_n 0, 1) := dk_42 (dk_at dksJ1_init_0 16 rfl rfl)
theorem dJ1_init_17 : decode cJ1_init 17 = .ok (.getstatic 20, 3) := dk_178 0 20 (dk_at dksJ1_init_0 17 rfl rfl)
theorem dJ1_init_20 : decode cJ1_init 20 = .ok (.putfield 24, 3) := dk_181 0 24 (dk_at dksJ1_init_0 20 rfl rfl)
theorem dJ1_init_23 : decode cJ1_init 23 = .ok (.aload_n 0, 1) := dk_42 (dk_at dksJ1_init_0 23 rfl rfl)
theorem dJ1_init_24 : decode cJ1_init 24 = .ok (.invokevirtual 27, 3) := dk_182 0 27 (dk_at dksJ1_init_1 0 rfl rfl)
theorem dJ1_init_27 : decode cJ1_init 27 = .ok (.pop, 1) := dk_87 (dk_at dksJ1_init_1 3 rfl rfl)
theorem dJ1_init_28 : decode cJ1_init 28 = .ok (.aload_n 0, 1) := dk_42 (dk_at dksJ1_init_1 4 rfl rfl)
theorem dJ1_init_29 : decode cJ1_init 29 = .ok (.aload_n 1, 1) := dk_43 (dk_at dksJ1_init_1 5 rfl rfl)
theorem dJ1_init_30 : decode cJ1_init 30 = .ok (.putfield 31, 3) := dk_181 0 31 (dk_at dksJ1_init_1 6 rfl rfl)
theorem dJ1_init_33 : decode cJ1_init 33 = .ok (.return_, 1) := dk_177 (dk_at dksJ1_init_1 9 rfl rfl)
abbrev cJ1_init_2 : ByteArray := prog_36_method_1_code
def yJ1_init_2 : MethodName := ⟨RJ1, "<init>", "()V"⟩
def dkwJ1_init_2_1 : List UInt8 := [182, 0, 27, 87, 177]
abbrev dktJ1_init_2_1 : List UInt8 := dkwJ1_init_2_1 ++ []
def dkwJ1_init_2_0 : List UInt8 := [42, 183, 0, 1, 42, 42, 181, 0, 7, 42, 178, 0, 13, 181, 0, 17, 42, 178, 0, 20, 181, 0, 24, 42]
abbrev dktJ1_init_2_0 : List UInt8 := dkwJ1_init_2_0 ++ dktJ1_init_2_1
theorem dksJ1_init_2_0 : cJ1_init_2.data.toList.drop 0 = dktJ1_init_2_0 := by decide +kernel
theorem dksJ1_init_2_1 : cJ1_init_2.data.toList.drop 24 = dktJ1_init_2_1 := dk_seg dksJ1_init_2_0 24 rfl rfl
theorem dJ1_init_2_0 : decode cJ1_init_2 0 = .ok (.aload_n 0, 1) := dk_42 (dk_at dksJ1_init_2_0 0 rfl rfl)
theorem dJ1_init_2_1 : decode cJ1_init_2 1 = .ok (.invokespecial 1, 3) := dk_183 0 1 (dk_at dksJ1_init_2_0 1 rfl rfl)
theorem dJ1_init_2_4 : decode cJ1_init_2 4 = .ok (.aload_n 0, 1) := dk_42 (dk_at dksJ1_init_2_0 4 rfl rfl)
theorem dJ1_init_2_5 : decode cJ1_init_2 5 = .ok (.aload_n 0, 1) := dk_42 (dk_at dksJ1_init_2_0 5 rfl rfl)
theorem dJ1_init_2_6 : decode cJ1_init_2 6 = .ok (.putfield 7, 3) := dk_181 0 7 (dk_at dksJ1_init_2_0 6 rfl rfl)
theorem dJ1_init_2_9 : decode cJ1_init_2 9 = .ok (.aload_n 0, 1) := dk_42 (dk_at dksJ1_init_2_0 9 rfl rfl)
theorem dJ1_init_2_10 : decode cJ1_init_2 10 = .ok (.getstatic 13, 3) := dk_178 0 13 (dk_at dksJ1_init_2_0 10 rfl rfl)
theorem dJ1_init_2_13 : decode cJ1_init_2 13 = .ok (.putfield 17, 3) := dk_181 0 17 (dk_at dksJ1_init_2_0 13 rfl rfl)
theorem dJ1_init_2_16 : decode cJ1_init_2 16 = .ok (.aload_n 0, 1) := dk_42 (dk_at dksJ1_init_2_0 16 rfl rfl)
theorem dJ1_init_2_17 : decode cJ1_init_2 17 = .ok (.getstatic 20, 3) := dk_178 0 20 (dk_at dksJ1_init_2_0 17 rfl rfl)
theorem dJ1_init_2_20 : decode cJ1_init_2 20 = .ok (.putfield 24, 3) := dk_181 0 24 (dk_at dksJ1_init_2_0 20 rfl rfl)
theorem dJ1_init_2_23 : decode cJ1_init_2 23 = .ok (.aload_n 0, 1) := dk_42 (dk_at dksJ1_init_2_0 23 rfl rfl)
theorem dJ1_init_2_24 : decode cJ1_init_2 24 = .ok (.invokevirtual 27, 3) := dk_182 0 27 (dk_at dksJ1_init_2_1 0 rfl rfl)
theorem dJ1_init_2_27 : decode cJ1_init_2 27 = .ok (.pop, 1) := dk_87 (dk_at dksJ1_init_2_1 3 rfl rfl)
theorem dJ1_init_2_28 : decode cJ1_init_2 28 = .ok (.return_, 1) := dk_177 (dk_at dksJ1_init_2_1 4 rfl rfl)
abbrev cJ1_init_3 : ByteArray := prog_36_method_5_code
def yJ1_init_3 : MethodName := ⟨RJ1, "<init>", "(Ljava/lang/String;Ljava/lang/Throwable;ZZ)V"⟩
def dkwJ1_init_3_2 : List UInt8 := [44, 181, 0, 7, 29, 154, 0, 8, 42, 1, 181, 0, 24, 177]
abbrev dktJ1_init_3_2 : List UInt8 := dkwJ1_init_3_2 ++ []
def dkwJ1_init_3_1 : List UInt8 := [21, 4, 153, 0, 11, 42, 182, 0, 27, 87, 167, 0, 8, 42, 1, 181, 0, 17, 42, 43, 181, 0, 31, 42]
abbrev dktJ1_init_3_1 : List UInt8 := dkwJ1_init_3_1 ++ dktJ1_init_3_2
def dkwJ1_init_3_0 : List UInt8 := [42, 183, 0, 1, 42, 42, 181, 0, 7, 42, 178, 0, 13, 181, 0, 17, 42, 178, 0, 20, 181, 0, 24]
abbrev dktJ1_init_3_0 : List UInt8 := dkwJ1_init_3_0 ++ dktJ1_init_3_1
theorem dksJ1_init_3_0 : cJ1_init_3.data.toList.drop 0 = dktJ1_init_3_0 := by decide +kernel
theorem dksJ1_init_3_1 : cJ1_init_3.data.toList.drop 23 = dktJ1_init_3_1 := dk_seg dksJ1_init_3_0 23 rfl rfl
theorem dksJ1_init_3_2 : cJ1_init_3.data.toList.drop 47 = dktJ1_init_3_2 := dk_seg dksJ1_init_3_1 24 rfl rfl
theorem dJ1_init_3_0 : decode cJ1_init_3 0 = .ok (.aload_n 0, 1) := dk_42 (dk_at dksJ1_init_3_0 0 rfl rfl)
theorem dJ1_init_3_1 : decode cJ1_init_3 1 = .ok (.invokespecial 1, 3) := dk_183 0 1 (dk_at dksJ1_init_3_0 1 rfl rfl)
theorem dJ1_init_3_4 : decode cJ1_init_3 4 = .ok (.aload_n 0, 1) := dk_42 (dk_at dksJ1_init_3_0 4 rfl rfl)
theorem dJ1_init_3_5 : decode cJ1_init_3 5 = .ok (.aload_n 0, 1) := dk_42 (dk_at dksJ1_init_3_0 5 rfl rfl)
theorem dJ1_init_3_6 : decode cJ1_init_3 6 = .ok (.putfield 7, 3) := dk_181 0 7 (dk_at dksJ1_init_3_0 6 rfl rfl)
theorem dJ1_init_3_9 : decode cJ1_init_3 9 = .ok (.aload_n 0, 1) := dk_42 (dk_at dksJ1_init_3_0 9 rfl rfl)
theorem dJ1_init_3_10 : decode cJ1_init_3 10 = .ok (.getstatic 13, 3) := dk_178 0 13 (dk_at dksJ1_init_3_0 10 rfl rfl)
theorem dJ1_init_3_13 : decode cJ1_init_3 13 = .ok (.putfield 17, 3) := dk_181 0 17 (dk_at dksJ1_init_3_0 13 rfl rfl)
theorem dJ1_init_3_16 : decode cJ1_init_3 16 = .ok (.aload_n 0, 1) := dk_42 (dk_at dksJ1_init_3_0 16 rfl rfl)
theorem dJ1_init_3_17 : decode cJ1_init_3 17 = .ok (.getstatic 20, 3) := dk_178 0 20 (dk_at dksJ1_init_3_0 17 rfl rfl)
theorem dJ1_init_3_20 : decode cJ1_init_3 20 = .ok (.putfield 24, 3) := dk_181 0 24 (dk_at dksJ1_init_3_0 20 rfl rfl)
theorem dJ1_init_3_23 : decode cJ1_init_3 23 = .ok (.iload 4, 2) := dk_21 4 (dk_at dksJ1_init_3_1 0 rfl rfl)
theorem dJ1_init_3_25 : decode cJ1_init_3 25 = .ok (.ifCond .eq 11, 3) := dk_153 0 11 (dk_at dksJ1_init_3_1 2 rfl rfl)
theorem dJ1_init_3_28 : decode cJ1_init_3 28 = .ok (.aload_n 0, 1) := dk_42 (dk_at dksJ1_init_3_1 5 rfl rfl)
theorem dJ1_init_3_29 : decode cJ1_init_3 29 = .ok (.invokevirtual 27, 3) := dk_182 0 27 (dk_at dksJ1_init_3_1 6 rfl rfl)
theorem dJ1_init_3_32 : decode cJ1_init_3 32 = .ok (.pop, 1) := dk_87 (dk_at dksJ1_init_3_1 9 rfl rfl)
theorem dJ1_init_3_33 : decode cJ1_init_3 33 = .ok (.goto 8, 3) := dk_167 0 8 (dk_at dksJ1_init_3_1 10 rfl rfl)
theorem dJ1_init_3_36 : decode cJ1_init_3 36 = .ok (.aload_n 0, 1) := dk_42 (dk_at dksJ1_init_3_1 13 rfl rfl)
theorem dJ1_init_3_37 : decode cJ1_init_3 37 = .ok (.aconst_null, 1) := dk_1 (dk_at dksJ1_init_3_1 14 rfl rfl)
theorem dJ1_init_3_38 : decode cJ1_init_3 38 = .ok (.putfield 17, 3) := dk_181 0 17 (dk_at dksJ1_init_3_1 15 rfl rfl)
theorem dJ1_init_3_41 : decode cJ1_init_3 41 = .ok (.aload_n 0, 1) := dk_42 (dk_at dksJ1_init_3_1 18 rfl rfl)
theorem dJ1_init_3_42 : decode cJ1_init_3 42 = .ok (.aload_n 1, 1) := dk_43 (dk_at dksJ1_init_3_1 19 rfl rfl)
theorem dJ1_init_3_43 : decode cJ1_init_3 43 = .ok (.putfield 31, 3) := dk_181 0 31 (dk_at dksJ1_init_3_1 20 rfl rfl)
theorem dJ1_init_3_46 : decode cJ1_init_3 46 = .ok (.aload_n 0, 1) := dk_42 (dk_at dksJ1_init_3_1 23 rfl rfl)
theorem dJ1_init_3_47 : decode cJ1_init_3 47 = .ok (.aload_n 2, 1) := dk_44 (dk_at dksJ1_init_3_2 0 rfl rfl)
theorem dJ1_init_3_48 : decode cJ1_init_3 48 = .ok (.putfield 7, 3) := dk_181 0 7 (dk_at dksJ1_init_3_2 1 rfl rfl)
theorem dJ1_init_3_51 : decode cJ1_init_3 51 = .ok (.iload_n 3, 1) := dk_29 (dk_at dksJ1_init_3_2 4 rfl rfl)
theorem dJ1_init_3_52 : decode cJ1_init_3 52 = .ok (.ifCond .ne 8, 3) := dk_154 0 8 (dk_at dksJ1_init_3_2 5 rfl rfl)
theorem dJ1_init_3_55 : decode cJ1_init_3 55 = .ok (.aload_n 0, 1) := dk_42 (dk_at dksJ1_init_3_2 8 rfl rfl)
theorem dJ1_init_3_56 : decode cJ1_init_3 56 = .ok (.aconst_null, 1) := dk_1 (dk_at dksJ1_init_3_2 9 rfl rfl)
theorem dJ1_init_3_57 : decode cJ1_init_3 57 = .ok (.putfield 24, 3) := dk_181 0 24 (dk_at dksJ1_init_3_2 10 rfl rfl)
theorem dJ1_init_3_60 : decode cJ1_init_3 60 = .ok (.return_, 1) := dk_177 (dk_at dksJ1_init_3_2 13 rfl rfl)
theorem q84 : (Jvm.Cond.initialized "java/lang/Throwable") ∈ lw_all := lw_g (lw_at lw_m1 13 rfl) rfl
theorem q627 : (Jvm.Cond.instanceMethod ({ cls := "java/lang/Throwable", name := "<init>", desc := "(Ljava/lang/String;)V" } : Jvm.MethodName)) ∈ lw_all := lw_g (lw_at lw_m3 76 rfl) rfl
theorem q628 : (Jvm.Cond.code ({ cls := "java/lang/Throwable", name := "<init>", desc := "(Ljava/lang/String;)V" } : Jvm.MethodName) prog_36_method_2_code (2 : Nat) (Option.none : Option Jvm.ClassFile.FieldType)) ∈ lw_all := lw_g (lw_at lw_m3 77 rfl) rfl
theorem q629 : (Jvm.Cond.methodLink "java/lang/Throwable" (1 : Nat) ({ cls := "java/lang/Object", name := "<init>", desc := "()V" } : Jvm.MethodName)) ∈ lw_all := lw_g (lw_at lw_m3 78 rfl) rfl
theorem q630 : (Jvm.Cond.fieldLink "java/lang/Throwable" (13 : Nat) "java/lang/Throwable" "UNASSIGNED_STACK" "[Ljava/lang/StackTraceElement;") ∈ lw_all := lw_g (lw_at lw_m3 79 rfl) rfl
theorem q631 : (Jvm.Cond.laysStatic "java/lang/Throwable" "UNASSIGNED_STACK" "[Ljava/lang/StackTraceElement;") ∈ lw_tbl := lw_at lw_m3 80 rfl
theorem q632 : (Jvm.Cond.fieldLink "java/lang/Throwable" (20 : Nat) "java/lang/Throwable" "SUPPRESSED_SENTINEL" "Ljava/util/List;") ∈ lw_all := lw_g (lw_at lw_m3 81 rfl) rfl
theorem q633 : (Jvm.Cond.laysStatic "java/lang/Throwable" "SUPPRESSED_SENTINEL" "Ljava/util/List;") ∈ lw_tbl := lw_at lw_m3 82 rfl
theorem q634 : (Jvm.Cond.methodLink "java/lang/Throwable" (27 : Nat) ({ cls := "java/lang/Throwable", name := "fillInStackTrace", desc := "()Ljava/lang/Throwable;" } : Jvm.MethodName)) ∈ lw_all := lw_g (lw_at lw_m3 83 rfl) rfl
theorem q635 : (Jvm.Cond.instanceMethod ({ cls := "java/lang/Throwable", name := "fillInStackTrace", desc := "()Ljava/lang/Throwable;" } : Jvm.MethodName)) ∈ lw_all := lw_g (lw_at lw_m3 84 rfl) rfl
theorem q636 : (Jvm.Cond.sameMethod "java/lang/Throwable" "java/lang/Throwable" "fillInStackTrace" "()Ljava/lang/Throwable;") ∈ lw_all := lw_g (lw_at lw_m3 85 rfl) rfl
theorem q653 : (Jvm.Cond.declares ({ cls := "java/lang/Throwable", name := "fillInStackTrace", desc := "()Ljava/lang/Throwable;" } : Jvm.MethodName)) ∈ lw_tbl := lw_at lw_m3 102 rfl
theorem q657 : (Jvm.Cond.codeSync ({ cls := "java/lang/Throwable", name := "fillInStackTrace", desc := "()Ljava/lang/Throwable;" } : Jvm.MethodName) prog_36_method_18_code (1 : Nat) (Option.some (Jvm.ClassFile.FieldType.object "java/lang/Throwable"))) ∈ lw_all := lw_g (lw_at lw_m3 106 rfl) rfl
theorem q658 : (Jvm.Cond.methodLink "java/lang/Throwable" (202 : Nat) ({ cls := "java/lang/Throwable", name := "fillInStackTrace", desc := "(I)Ljava/lang/Throwable;" } : Jvm.MethodName)) ∈ lw_all := lw_g (lw_at lw_m3 107 rfl) rfl
theorem q659 : (Jvm.Cond.privateMethod ({ cls := "java/lang/Throwable", name := "fillInStackTrace", desc := "(I)Ljava/lang/Throwable;" } : Jvm.MethodName)) ∈ lw_tbl := lw_at lw_m3 108 rfl
theorem q660 : (Jvm.Cond.instanceMethod ({ cls := "java/lang/Throwable", name := "fillInStackTrace", desc := "(I)Ljava/lang/Throwable;" } : Jvm.MethodName)) ∈ lw_all := lw_g (lw_at lw_m3 109 rfl) rfl
theorem q661 : (Jvm.Cond.instantiable "java/lang/Throwable" (6 : Nat)) ∈ lw_all := lw_g (lw_at lw_m3 110 rfl) rfl
theorem q662 : (Jvm.Cond.native ({ cls := "java/lang/Throwable", name := "fillInStackTrace", desc := "(I)Ljava/lang/Throwable;" } : Jvm.MethodName)) ∈ lw_all := lw_g (lw_at lw_m3 111 rfl) rfl
theorem q663 : (Jvm.Cond.fieldLink "java/lang/Throwable" (198 : Nat) "java/lang/Throwable" "backtrace" "Ljava/lang/Object;") ∈ lw_all := lw_g (lw_at lw_m3 112 rfl) rfl
theorem q664 : (Jvm.Cond.fieldLink "java/lang/Throwable" (31 : Nat) "java/lang/Throwable" "detailMessage" "Ljava/lang/String;") ∈ lw_all := lw_g (lw_at lw_m3 113 rfl) rfl
theorem q665 : (Jvm.Cond.fieldLink "java/lang/Throwable" (7 : Nat) "java/lang/Throwable" "cause" "Ljava/lang/Throwable;") ∈ lw_all := lw_g (lw_at lw_m3 114 rfl) rfl
theorem q666 : (Jvm.Cond.fieldLink "java/lang/Throwable" (17 : Nat) "java/lang/Throwable" "stackTrace" "[Ljava/lang/StackTraceElement;") ∈ lw_all := lw_g (lw_at lw_m3 115 rfl) rfl
theorem q667 : (Jvm.Cond.fieldLink "java/lang/Throwable" (24 : Nat) "java/lang/Throwable" "suppressedExceptions" "Ljava/util/List;") ∈ lw_all := lw_g (lw_at lw_m3 116 rfl) rfl
theorem q669 : (Jvm.Cond.soleField "java/lang/Throwable" "backtrace") ∈ lw_all := lw_g (lw_at lw_m3 118 rfl) rfl
theorem q671 : (Jvm.Cond.soleField "java/lang/Throwable" "detailMessage") ∈ lw_all := lw_g (lw_at lw_m3 120 rfl) rfl
theorem q673 : (Jvm.Cond.soleField "java/lang/Throwable" "cause") ∈ lw_all := lw_g (lw_at lw_m3 122 rfl) rfl
theorem q675 : (Jvm.Cond.soleField "java/lang/Throwable" "stackTrace") ∈ lw_all := lw_g (lw_at lw_m3 124 rfl) rfl
theorem q677 : (Jvm.Cond.soleField "java/lang/Throwable" "depth") ∈ lw_all := lw_g (lw_at lw_m3 126 rfl) rfl
theorem q679 : (Jvm.Cond.soleField "java/lang/Throwable" "suppressedExceptions") ∈ lw_all := lw_g (lw_at lw_m3 128 rfl) rfl
theorem q686 : (Jvm.Cond.declares ({ cls := "java/lang/Throwable", name := "<init>", desc := "()V" } : Jvm.MethodName)) ∈ lw_tbl := lw_at lw_m3 135 rfl
theorem q687 : (Jvm.Cond.declares ({ cls := "java/lang/Throwable", name := "<init>", desc := "(Ljava/lang/String;)V" } : Jvm.MethodName)) ∈ lw_tbl := lw_at lw_m3 136 rfl
theorem q689 : (Jvm.Cond.lays "java/lang/Throwable" "java/lang/Throwable" "cause" "Ljava/lang/Throwable;") ∈ lw_all := lw_g (lw_at lw_m3 138 rfl) rfl
theorem q690 : (Jvm.Cond.lays "java/lang/Throwable" "java/lang/Throwable" "stackTrace" "[Ljava/lang/StackTraceElement;") ∈ lw_all := lw_g (lw_at lw_m3 139 rfl) rfl
theorem q691 : (Jvm.Cond.lays "java/lang/Throwable" "java/lang/Throwable" "suppressedExceptions" "Ljava/util/List;") ∈ lw_all := lw_g (lw_at lw_m3 140 rfl) rfl
theorem q692 : (Jvm.Cond.lays "java/lang/Throwable" "java/lang/Throwable" "detailMessage" "Ljava/lang/String;") ∈ lw_all := lw_g (lw_at lw_m3 141 rfl) rfl
theorem q693 : (Jvm.Cond.lays "java/lang/Throwable" "java/lang/Throwable" "backtrace" "Ljava/lang/Object;") ∈ lw_all := lw_g (lw_at lw_m3 142 rfl) rfl
theorem q694 : (Jvm.Cond.fieldLink "java/lang/Throwable" (198 : Nat) "java/lang/Throwable" "backtrace" "Ljava/lang/Object;") ∈ lw_all := lw_g (lw_at lw_m3 143 rfl) rfl
theorem q695 : (Jvm.Cond.superclass "java/lang/Throwable" "java/lang/Object") ∈ lw_all := lw_g (lw_at lw_m3 144 rfl) rfl
theorem q696 : (Jvm.Cond.instanceMethod ({ cls := "java/lang/Throwable", name := "<init>", desc := "()V" } : Jvm.MethodName)) ∈ lw_all := lw_g (lw_at lw_m3 145 rfl) rfl
theorem q697 : (Jvm.Cond.code ({ cls := "java/lang/Throwable", name := "<init>", desc := "()V" } : Jvm.MethodName) prog_36_method_1_code (1 : Nat) (Option.none : Option Jvm.ClassFile.FieldType)) ∈ lw_all := lw_g (lw_at lw_m3 146 rfl) rfl
theorem q1042 : (Jvm.Cond.instanceMethod ({ cls := "java/lang/Throwable", name := "<init>", desc := "(Ljava/lang/String;Ljava/lang/Throwable;ZZ)V" } : Jvm.MethodName)) ∈ lw_all := lw_g (lw_at lw_m5 11 rfl) rfl
theorem q1043 : (Jvm.Cond.code ({ cls := "java/lang/Throwable", name := "<init>", desc := "(Ljava/lang/String;Ljava/lang/Throwable;ZZ)V" } : Jvm.MethodName) prog_36_method_5_code (5 : Nat) (Option.none : Option Jvm.ClassFile.FieldType)) ∈ lw_all := lw_g (lw_at lw_m5 12 rfl) rfl
theorem q1869 : (Jvm.Cond.sameMethod "java/lang/Throwable" "java/lang/Throwable" "fillInStackTrace" "(I)Ljava/lang/Throwable;") ∈ lw_all := lw_g (lw_at lw_m8 118 rfl) rfl
theorem in_J1 : ∀ w ∈ wsJ10, w ∈ lw_all := lw_in wsJ10 [689, 690, 691, 692, 693] (by decide +kernel) (by decide +kernel)
/-! java/lang/NullPointerException -/
set_option maxRecDepth 100000
def RJ10 : String := "java/lang/NullPointerException"
def TJ10 : u_T := fun k => match k with
  | 0 => ("java/lang/Throwable", "backtrace", "Ljava/lang/Object;", false)
  | 1 => ("java/lang/Throwable", "detailMessage", "Ljava/lang/String;", false)
  | 2 => ("java/lang/Throwable", "cause", "Ljava/lang/Throwable;", false)
  | 3 => ("java/lang/Throwable", "stackTrace", "[Ljava/lang/StackTraceElement;", false)
  | 4 => ("java/lang/Throwable", "depth", "I", false)
  | 5 => ("java/lang/Throwable", "suppressedExceptions", "Ljava/util/List;", false)
  | 6 => ("java/lang/NullPointerException", "extendedMessageState", "I", false)
  | _ => ("java/lang/NullPointerException", "extendedMessage", "Ljava/lang/String;", false)
def tyJ10 : Nat → FieldType := fun k => match k with
  | 0 => .object "java/lang/Object"
  | 1 => .object "java/lang/String"
  | 2 => .object "java/lang/Throwable"
  | 3 => .array (.object "java/lang/StackTraceElement")
  | 4 => .int
  | 5 => .object "java/util/List"
  | 6 => .int
  | _ => .object "java/lang/String"
abbrev wsJ100 : List Cond := u_ws RJ10 TJ10 8
theorem nmJ10 : ∀ a, a < 8 → ∀ b, b < 8 → a ≠ b → (TJ10 a).2.1 ≠ (TJ10 b).2.1 := by decide +kernel
theorem tyJ10_ok : ∀ k, k < 8 → parseFieldDescriptor (TJ10 k).2.2.1 = some (tyJ10 k) := by decide +kernel
abbrev cJ10_init : ByteArray := prog_30_method_1_code
def yJ10_init : MethodName := ⟨RJ10, "<init>", "()V"⟩
theorem dJ10_init_0 : decode cJ10_init 0 = .ok (.aload_n 0, 1) := by decide +kernel
theorem dJ10_init_1 : decode cJ10_init 1 = .ok (.invokespecial 1, 3) := by decide +kernel
theorem dJ10_init_4 : decode cJ10_init 4 = .ok (.return_, 1) := by decide +kernel
theorem q99 : (Jvm.Cond.initialized "java/lang/NullPointerException") ∈ lw_all := lw_g (lw_at lw_m1 28 rfl) rfl
theorem q643 : (Jvm.Cond.selects "java/lang/NullPointerException" ({ cls := "java/lang/Throwable", name := "fillInStackTrace", desc := "()Ljava/lang/Throwable;" } : Jvm.MethodName) ({ cls := "java/lang/NullPointerException", name := "fillInStackTrace", desc := "()Ljava/lang/Throwable;" } : Jvm.MethodName)) ∈ lw_all := lw_g (lw_at lw_m3 92 rfl) rfl
theorem q644 : (Jvm.Cond.instanceMethod ({ cls := "java/lang/NullPointerException", name := "fillInStackTrace", desc := "()Ljava/lang/Throwable;" } : Jvm.MethodName)) ∈ lw_all := lw_g (lw_at lw_m3 93 rfl) rfl
theorem q645 : (Jvm.Cond.codeSync ({ cls := "java/lang/NullPointerException", name := "fillInStackTrace", desc := "()Ljava/lang/Throwable;" } : Jvm.MethodName) prog_30_method_3_code (1 : Nat) (Option.some (Jvm.ClassFile.FieldType.object "java/lang/Throwable"))) ∈ lw_all := lw_g (lw_at lw_m3 94 rfl) rfl
theorem q646 : (Jvm.Cond.methodLink "java/lang/NullPointerException" (16 : Nat) ({ cls := "java/lang/NullPointerException", name := "getExtendedNPEMessage", desc := "()Ljava/lang/String;" } : Jvm.MethodName)) ∈ lw_all := lw_g (lw_at lw_m3 95 rfl) rfl
theorem q647 : (Jvm.Cond.privateMethod ({ cls := "java/lang/NullPointerException", name := "getExtendedNPEMessage", desc := "()Ljava/lang/String;" } : Jvm.MethodName)) ∈ lw_tbl := lw_at lw_m3 96 rfl
theorem q648 : (Jvm.Cond.instanceMethod ({ cls := "java/lang/NullPointerException", name := "getExtendedNPEMessage", desc := "()Ljava/lang/String;" } : Jvm.MethodName)) ∈ lw_all := lw_g (lw_at lw_m3 97 rfl) rfl
theorem q649 : (Jvm.Cond.instantiable "java/lang/NullPointerException" (8 : Nat)) ∈ lw_all := lw_g (lw_at lw_m3 98 rfl) rfl
theorem q650 : (Jvm.Cond.native ({ cls := "java/lang/NullPointerException", name := "getExtendedNPEMessage", desc := "()Ljava/lang/String;" } : Jvm.MethodName)) ∈ lw_all := lw_g (lw_at lw_m3 99 rfl) rfl
theorem q651 : (Jvm.Cond.methodLink "java/lang/NullPointerException" (24 : Nat) ({ cls := "java/lang/RuntimeException", name := "fillInStackTrace", desc := "()Ljava/lang/Throwable;" } : Jvm.MethodName)) ∈ lw_all := lw_g (lw_at lw_m3 100 rfl) rfl
theorem q654 : (Jvm.Cond.superclass "java/lang/NullPointerException" "java/lang/RuntimeException") ∈ lw_all := lw_g (lw_at lw_m3 103 rfl) rfl
theorem q1185 : (Jvm.Cond.instanceMethod ({ cls := "java/lang/NullPointerException", name := "<init>", desc := "()V" } : Jvm.MethodName)) ∈ lw_all := lw_g (lw_at lw_m5 154 rfl) rfl
theorem q1186 : (Jvm.Cond.code ({ cls := "java/lang/NullPointerException", name := "<init>", desc := "()V" } : Jvm.MethodName) prog_30_method_1_code (1 : Nat) (Option.none : Option Jvm.ClassFile.FieldType)) ∈ lw_all := lw_g (lw_at lw_m5 155 rfl) rfl
theorem q1187 : (Jvm.Cond.methodLink "java/lang/NullPointerException" (1 : Nat) ({ cls := "java/lang/RuntimeException", name := "<init>", desc := "()V" } : Jvm.MethodName)) ∈ lw_all := lw_g (lw_at lw_m5 156 rfl) rfl
theorem q1194 : (Jvm.Cond.fieldLink "java/lang/NullPointerException" (10 : Nat) "java/lang/NullPointerException" "extendedMessageState" "I") ∈ lw_all := lw_g (lw_at lw_m5 163 rfl) rfl
theorem q1195 : (Jvm.Cond.fieldLink "java/lang/NullPointerException" (20 : Nat) "java/lang/NullPointerException" "extendedMessage" "Ljava/lang/String;") ∈ lw_all := lw_g (lw_at lw_m5 164 rfl) rfl
theorem q1196 : (Jvm.Cond.lays "java/lang/NullPointerException" "java/lang/NullPointerException" "extendedMessageState" "I") ∈ lw_all := lw_g (lw_at lw_m5 165 rfl) rfl
theorem q1197 : (Jvm.Cond.soleField "java/lang/NullPointerException" "extendedMessageState") ∈ lw_all := lw_g (lw_at lw_m5 166 rfl) rfl
theorem q1198 : (Jvm.Cond.lays "java/lang/NullPointerException" "java/lang/NullPointerException" "extendedMessage" "Ljava/lang/String;") ∈ lw_all := lw_g (lw_at lw_m5 167 rfl) rfl
theorem q1199 : (Jvm.Cond.soleField "java/lang/NullPointerException" "extendedMessage") ∈ lw_all := lw_g (lw_at lw_m5 168 rfl) rfl
theorem q1200 : (Jvm.Cond.lays "java/lang/NullPointerException" "java/lang/Throwable" "backtrace" "Ljava/lang/Object;") ∈ lw_all := lw_g (lw_at lw_m5 169 rfl) rfl
theorem q1201 : (Jvm.Cond.lays "java/lang/NullPointerException" "java/lang/Throwable" "detailMessage" "Ljava/lang/String;") ∈ lw_all := lw_g (lw_at lw_m5 170 rfl) rfl
theorem q1202 : (Jvm.Cond.lays "java/lang/NullPointerException" "java/lang/Throwable" "cause" "Ljava/lang/Throwable;") ∈ lw_all := lw_g (lw_at lw_m5 171 rfl) rfl
theorem q1203 : (Jvm.Cond.lays "java/lang/NullPointerException" "java/lang/Throwable" "stackTrace" "[Ljava/lang/StackTraceElement;") ∈ lw_all := lw_g (lw_at lw_m5 172 rfl) rfl
theorem q1204 : (Jvm.Cond.lays "java/lang/NullPointerException" "java/lang/Throwable" "depth" "I") ∈ lw_all := lw_g (lw_at lw_m5 173 rfl) rfl
theorem q1205 : (Jvm.Cond.lays "java/lang/NullPointerException" "java/lang/Throwable" "suppressedExceptions" "Ljava/util/List;") ∈ lw_all := lw_g (lw_at lw_m5 174 rfl) rfl
theorem q1206 : (Jvm.Cond.castable "java/lang/NullPointerException" "java/lang/NullPointerException") ∈ lw_tbl := lw_at lw_m5 175 rfl
theorem q1207 : (Jvm.Cond.selects "java/lang/NullPointerException" ({ cls := "java/lang/Throwable", name := "fillInStackTrace", desc := "(I)Ljava/lang/Throwable;" } : Jvm.MethodName) ({ cls := "java/lang/Throwable", name := "fillInStackTrace", desc := "(I)Ljava/lang/Throwable;" } : Jvm.MethodName)) ∈ lw_all := lw_g (lw_at lw_m5 176 rfl) rfl
theorem in_J10 : ∀ w ∈ wsJ100, w ∈ lw_all := lw_in wsJ100 [1200, 1201, 1202, 1203, 1204, 1205, 1196, 1198] (by decide +kernel) (by decide +kernel)
/-! java/lang/IndexOutOfBoundsException -/
set_option maxRecDepth 100000
def RJ11 : String := "java/lang/IndexOutOfBoundsException"
def TJ11 : u_T := fun k => match k with
  | 0 => ("java/lang/Throwable", "cause", "Ljava/lang/Throwable;", false)
  | 1 => ("java/lang/Throwable", "stackTrace", "[Ljava/lang/StackTraceElement;", false)
  | 2 => ("java/lang/Throwable", "suppressedExceptions", "Ljava/util/List;", false)
  | 3 => ("java/lang/Throwable", "detailMessage", "Ljava/lang/String;", false)
  | 4 => ("java/lang/Throwable", "backtrace", "Ljava/lang/Object;", false)
  | _ => ("java/lang/Throwable", "depth", "I", false)
def tyJ11 : Nat → FieldType := fun k => match k with
  | 0 => .object "java/lang/Throwable"
  | 1 => .array (.object "java/lang/StackTraceElement")
  | 2 => .object "java/util/List"
  | 3 => .object "java/lang/String"
  | 4 => .object "java/lang/Object"
  | _ => .int
abbrev wsJ110 : List Cond := u_ws RJ11 TJ11 6
theorem nmJ11 : ∀ a, a < 6 → ∀ b, b < 6 → a ≠ b → (TJ11 a).2.1 ≠ (TJ11 b).2.1 := by decide +kernel
theorem tyJ11_ok : ∀ k, k < 6 → parseFieldDescriptor (TJ11 k).2.2.1 = some (tyJ11 k) := by decide +kernel
abbrev cJ11_init : ByteArray := prog_27_method_2_code
def yJ11_init : MethodName := ⟨RJ11, "<init>", "(Ljava/lang/String;)V"⟩
def dkwJ11_init_0 : List UInt8 := [42, 43, 183, 0, 7, 177]
abbrev dktJ11_init_0 : List UInt8 := dkwJ11_init_0 ++ []
theorem dksJ11_init_0 : cJ11_init.data.toList.drop 0 = dktJ11_init_0 := by decide +kernel
theorem dJ11_init_0 : decode cJ11_init 0 = .ok (.aload_n 0, 1) := dk_42 (dk_at dksJ11_init_0 0 rfl rfl)
theorem dJ11_init_1 : decode cJ11_init 1 = .ok (.aload_n 1, 1) := dk_43 (dk_at dksJ11_init_0 1 rfl rfl)
theorem dJ11_init_2 : decode cJ11_init 2 = .ok (.invokespecial 7, 3) := dk_183 0 7 (dk_at dksJ11_init_0 2 rfl rfl)
theorem dJ11_init_5 : decode cJ11_init 5 = .ok (.return_, 1) := dk_177 (dk_at dksJ11_init_0 5 rfl rfl)
abbrev cJ11_init_2 : ByteArray := prog_27_method_1_code
def yJ11_init_2 : MethodName := ⟨RJ11, "<init>", "()V"⟩
theorem dJ11_init_2_0 : decode cJ11_init_2 0 = .ok (.aload_n 0, 1) := by decide +kernel
theorem dJ11_init_2_1 : decode cJ11_init_2 1 = .ok (.invokespecial 1, 3) := by decide +kernel
theorem dJ11_init_2_4 : decode cJ11_init_2 4 = .ok (.return_, 1) := by decide +kernel
theorem q100 : (Jvm.Cond.initialized "java/lang/IndexOutOfBoundsException") ∈ lw_all := lw_g (lw_at lw_m1 29 rfl) rfl
theorem q641 : (Jvm.Cond.selects "java/lang/IndexOutOfBoundsException" ({ cls := "java/lang/Throwable", name := "fillInStackTrace", desc := "()Ljava/lang/Throwable;" } : Jvm.MethodName) ({ cls := "java/lang/Throwable", name := "fillInStackTrace", desc := "()Ljava/lang/Throwable;" } : Jvm.MethodName)) ∈ lw_all := lw_g (lw_at lw_m3 90 rfl) rfl
theorem q1214 : (Jvm.Cond.instanceMethod ({ cls := "java/lang/IndexOutOfBoundsException", name := "<init>", desc := "(Ljava/lang/String;)V" } : Jvm.MethodName)) ∈ lw_all := lw_g (lw_at lw_m5 183 rfl) rfl
theorem q1215 : (Jvm.Cond.code ({ cls := "java/lang/IndexOutOfBoundsException", name := "<init>", desc := "(Ljava/lang/String;)V" } : Jvm.MethodName) prog_27_method_2_code (2 : Nat) (Option.none : Option Jvm.ClassFile.FieldType)) ∈ lw_all := lw_g (lw_at lw_m5 184 rfl) rfl
theorem q1216 : (Jvm.Cond.methodLink "java/lang/IndexOutOfBoundsException" (7 : Nat) ({ cls := "java/lang/RuntimeException", name := "<init>", desc := "(Ljava/lang/String;)V" } : Jvm.MethodName)) ∈ lw_all := lw_g (lw_at lw_m5 185 rfl) rfl
theorem q1225 : (Jvm.Cond.declares ({ cls := "java/lang/IndexOutOfBoundsException", name := "<init>", desc := "()V" } : Jvm.MethodName)) ∈ lw_tbl := lw_at lw_m5 194 rfl
theorem q1226 : (Jvm.Cond.declares ({ cls := "java/lang/IndexOutOfBoundsException", name := "<init>", desc := "(Ljava/lang/String;)V" } : Jvm.MethodName)) ∈ lw_tbl := lw_at lw_m5 195 rfl
theorem q1231 : (Jvm.Cond.instantiable "java/lang/IndexOutOfBoundsException" (6 : Nat)) ∈ lw_all := lw_g (lw_at lw_m5 200 rfl) rfl
theorem q1232 : (Jvm.Cond.castable "java/lang/IndexOutOfBoundsException" "java/lang/IndexOutOfBoundsException") ∈ lw_tbl := lw_at lw_m5 201 rfl
theorem q1233 : (Jvm.Cond.selects "java/lang/IndexOutOfBoundsException" ({ cls := "java/lang/Throwable", name := "fillInStackTrace", desc := "(I)Ljava/lang/Throwable;" } : Jvm.MethodName) ({ cls := "java/lang/Throwable", name := "fillInStackTrace", desc := "(I)Ljava/lang/Throwable;" } : Jvm.MethodName)) ∈ lw_all := lw_g (lw_at lw_m5 202 rfl) rfl
theorem q1234 : (Jvm.Cond.lays "java/lang/IndexOutOfBoundsException" "java/lang/Throwable" "cause" "Ljava/lang/Throwable;") ∈ lw_all := lw_g (lw_at lw_m5 203 rfl) rfl
theorem q1235 : (Jvm.Cond.lays "java/lang/IndexOutOfBoundsException" "java/lang/Throwable" "stackTrace" "[Ljava/lang/StackTraceElement;") ∈ lw_all := lw_g (lw_at lw_m5 204 rfl) rfl
theorem q1236 : (Jvm.Cond.lays "java/lang/IndexOutOfBoundsException" "java/lang/Throwable" "suppressedExceptions" "Ljava/util/List;") ∈ lw_all := lw_g (lw_at lw_m5 205 rfl) rfl
theorem q1237 : (Jvm.Cond.lays "java/lang/IndexOutOfBoundsException" "java/lang/Throwable" "detailMessage" "Ljava/lang/String;") ∈ lw_all := lw_g (lw_at lw_m5 206 rfl) rfl
theorem q1238 : (Jvm.Cond.lays "java/lang/IndexOutOfBoundsException" "java/lang/Throwable" "backtrace" "Ljava/lang/Object;") ∈ lw_all := lw_g (lw_at lw_m5 207 rfl) rfl
theorem q1240 : (Jvm.Cond.instanceMethod ({ cls := "java/lang/IndexOutOfBoundsException", name := "<init>", desc := "()V" } : Jvm.MethodName)) ∈ lw_all := lw_g (lw_at lw_m5 209 rfl) rfl
theorem q1241 : (Jvm.Cond.code ({ cls := "java/lang/IndexOutOfBoundsException", name := "<init>", desc := "()V" } : Jvm.MethodName) prog_27_method_1_code (1 : Nat) (Option.none : Option Jvm.ClassFile.FieldType)) ∈ lw_all := lw_g (lw_at lw_m5 210 rfl) rfl
theorem q1242 : (Jvm.Cond.methodLink "java/lang/IndexOutOfBoundsException" (1 : Nat) ({ cls := "java/lang/RuntimeException", name := "<init>", desc := "()V" } : Jvm.MethodName)) ∈ lw_all := lw_g (lw_at lw_m5 211 rfl) rfl
theorem q1243 : (Jvm.Cond.lays "java/lang/IndexOutOfBoundsException" "java/lang/Throwable" "depth" "I") ∈ lw_all := lw_g (lw_at lw_m5 212 rfl) rfl
theorem q1244 : (Jvm.Cond.superclass "java/lang/IndexOutOfBoundsException" "java/lang/RuntimeException") ∈ lw_all := lw_g (lw_at lw_m5 213 rfl) rfl
theorem in_J11 : ∀ w ∈ wsJ110, w ∈ lw_all := lw_in wsJ110 [1234, 1235, 1236, 1237, 1238, 1243] (by decide +kernel) (by decide +kernel)
/-! java/lang/ArrayIndexOutOfBoundsException -/
set_option maxRecDepth 100000
def RJ12 : String := "java/lang/ArrayIndexOutOfBoundsException"
def TJ12 : u_T := fun k => match k with
  | 0 => ("java/lang/Throwable", "backtrace", "Ljava/lang/Object;", false)
  | 1 => ("java/lang/Throwable", "detailMessage", "Ljava/lang/String;", false)
  | 2 => ("java/lang/Throwable", "cause", "Ljava/lang/Throwable;", false)
  | 3 => ("java/lang/Throwable", "stackTrace", "[Ljava/lang/StackTraceElement;", false)
  | 4 => ("java/lang/Throwable", "depth", "I", false)
  | _ => ("java/lang/Throwable", "suppressedExceptions", "Ljava/util/List;", false)
def tyJ12 : Nat → FieldType := fun k => match k with
  | 0 => .object "java/lang/Object"
  | 1 => .object "java/lang/String"
  | 2 => .object "java/lang/Throwable"
  | 3 => .array (.object "java/lang/StackTraceElement")
  | 4 => .int
  | _ => .object "java/util/List"
abbrev wsJ120 : List Cond := u_ws RJ12 TJ12 6
theorem nmJ12 : ∀ a, a < 6 → ∀ b, b < 6 → a ≠ b → (TJ12 a).2.1 ≠ (TJ12 b).2.1 := by decide +kernel
theorem tyJ12_ok : ∀ k, k < 6 → parseFieldDescriptor (TJ12 k).2.2.1 = some (tyJ12 k) := by decide +kernel
abbrev cJ12_init : ByteArray := prog_24_method_2_code
def yJ12_init : MethodName := ⟨RJ12, "<init>", "(Ljava/lang/String;)V"⟩
def dkwJ12_init_0 : List UInt8 := [42, 43, 183, 0, 7, 177]
abbrev dktJ12_init_0 : List UInt8 := dkwJ12_init_0 ++ []
theorem dksJ12_init_0 : cJ12_init.data.toList.drop 0 = dktJ12_init_0 := by decide +kernel
theorem dJ12_init_0 : decode cJ12_init 0 = .ok (.aload_n 0, 1) := dk_42 (dk_at dksJ12_init_0 0 rfl rfl)
theorem dJ12_init_1 : decode cJ12_init 1 = .ok (.aload_n 1, 1) := dk_43 (dk_at dksJ12_init_0 1 rfl rfl)
theorem dJ12_init_2 : decode cJ12_init 2 = .ok (.invokespecial 7, 3) := dk_183 0 7 (dk_at dksJ12_init_0 2 rfl rfl)
theorem dJ12_init_5 : decode cJ12_init 5 = .ok (.return_, 1) := dk_177 (dk_at dksJ12_init_0 5 rfl rfl)
theorem q101 : (Jvm.Cond.initialized "java/lang/ArrayIndexOutOfBoundsException") ∈ lw_all := lw_g (lw_at lw_m1 30 rfl) rfl
theorem q639 : (Jvm.Cond.selects "java/lang/ArrayIndexOutOfBoundsException" ({ cls := "java/lang/Throwable", name := "fillInStackTrace", desc := "()Ljava/lang/Throwable;" } : Jvm.MethodName) ({ cls := "java/lang/Throwable", name := "fillInStackTrace", desc := "()Ljava/lang/Throwable;" } : Jvm.MethodName)) ∈ lw_all := lw_g (lw_at lw_m3 88 rfl) rfl
theorem q1210 : (Jvm.Cond.instantiable "java/lang/ArrayIndexOutOfBoundsException" (6 : Nat)) ∈ lw_all := lw_g (lw_at lw_m5 179 rfl) rfl
theorem q1211 : (Jvm.Cond.instanceMethod ({ cls := "java/lang/ArrayIndexOutOfBoundsException", name := "<init>", desc := "(Ljava/lang/String;)V" } : Jvm.MethodName)) ∈ lw_all := lw_g (lw_at lw_m5 180 rfl) rfl
theorem q1212 : (Jvm.Cond.code ({ cls := "java/lang/ArrayIndexOutOfBoundsException", name := "<init>", desc := "(Ljava/lang/String;)V" } : Jvm.MethodName) prog_24_method_2_code (2 : Nat) (Option.none : Option Jvm.ClassFile.FieldType)) ∈ lw_all := lw_g (lw_at lw_m5 181 rfl) rfl
theorem q1213 : (Jvm.Cond.methodLink "java/lang/ArrayIndexOutOfBoundsException" (7 : Nat) ({ cls := "java/lang/IndexOutOfBoundsException", name := "<init>", desc := "(Ljava/lang/String;)V" } : Jvm.MethodName)) ∈ lw_all := lw_g (lw_at lw_m5 182 rfl) rfl
theorem q1217 : (Jvm.Cond.lays "java/lang/ArrayIndexOutOfBoundsException" "java/lang/Throwable" "backtrace" "Ljava/lang/Object;") ∈ lw_all := lw_g (lw_at lw_m5 186 rfl) rfl
theorem q1218 : (Jvm.Cond.lays "java/lang/ArrayIndexOutOfBoundsException" "java/lang/Throwable" "detailMessage" "Ljava/lang/String;") ∈ lw_all := lw_g (lw_at lw_m5 187 rfl) rfl
theorem q1219 : (Jvm.Cond.lays "java/lang/ArrayIndexOutOfBoundsException" "java/lang/Throwable" "cause" "Ljava/lang/Throwable;") ∈ lw_all := lw_g (lw_at lw_m5 188 rfl) rfl
theorem q1220 : (Jvm.Cond.lays "java/lang/ArrayIndexOutOfBoundsException" "java/lang/Throwable" "stackTrace" "[Ljava/lang/StackTraceElement;") ∈ lw_all := lw_g (lw_at lw_m5 189 rfl) rfl
theorem q1221 : (Jvm.Cond.lays "java/lang/ArrayIndexOutOfBoundsException" "java/lang/Throwable" "depth" "I") ∈ lw_all := lw_g (lw_at lw_m5 190 rfl) rfl
theorem q1222 : (Jvm.Cond.lays "java/lang/ArrayIndexOutOfBoundsException" "java/lang/Throwable" "suppressedExceptions" "Ljava/util/List;") ∈ lw_all := lw_g (lw_at lw_m5 191 rfl) rfl
theorem q1223 : (Jvm.Cond.superclass "java/lang/ArrayIndexOutOfBoundsException" "java/lang/IndexOutOfBoundsException") ∈ lw_all := lw_g (lw_at lw_m5 192 rfl) rfl
theorem q1224 : (Jvm.Cond.castable "java/lang/ArrayIndexOutOfBoundsException" "java/lang/ArrayIndexOutOfBoundsException") ∈ lw_tbl := lw_at lw_m5 193 rfl
theorem q1227 : (Jvm.Cond.selects "java/lang/ArrayIndexOutOfBoundsException" ({ cls := "java/lang/Throwable", name := "fillInStackTrace", desc := "(I)Ljava/lang/Throwable;" } : Jvm.MethodName) ({ cls := "java/lang/Throwable", name := "fillInStackTrace", desc := "(I)Ljava/lang/Throwable;" } : Jvm.MethodName)) ∈ lw_all := lw_g (lw_at lw_m5 196 rfl) rfl
theorem q1870 : (Jvm.Cond.castable "java/lang/ArrayIndexOutOfBoundsException" "java/lang/IndexOutOfBoundsException") ∈ lw_tbl := lw_at lw_m8 119 rfl
theorem in_J12 : ∀ w ∈ wsJ120, w ∈ lw_all := lw_in wsJ120 [1217, 1218, 1219, 1220, 1221, 1222] (by decide +kernel) (by decide +kernel)
/-! java/lang/ArithmeticException -/
set_option maxRecDepth 100000
def RJ13 : String := "java/lang/ArithmeticException"
def TJ13 : u_T := fun k => match k with
  | 0 => ("java/lang/Throwable", "backtrace", "Ljava/lang/Object;", false)
  | 1 => ("java/lang/Throwable", "detailMessage", "Ljava/lang/String;", false)
  | 2 => ("java/lang/Throwable", "cause", "Ljava/lang/Throwable;", false)
  | 3 => ("java/lang/Throwable", "stackTrace", "[Ljava/lang/StackTraceElement;", false)
  | 4 => ("java/lang/Throwable", "depth", "I", false)
  | _ => ("java/lang/Throwable", "suppressedExceptions", "Ljava/util/List;", false)
def tyJ13 : Nat → FieldType := fun k => match k with
  | 0 => .object "java/lang/Object"
  | 1 => .object "java/lang/String"
  | 2 => .object "java/lang/Throwable"
  | 3 => .array (.object "java/lang/StackTraceElement")
  | 4 => .int
  | _ => .object "java/util/List"
abbrev wsJ130 : List Cond := u_ws RJ13 TJ13 6
theorem nmJ13 : ∀ a, a < 6 → ∀ b, b < 6 → a ≠ b → (TJ13 a).2.1 ≠ (TJ13 b).2.1 := by decide +kernel
theorem tyJ13_ok : ∀ k, k < 6 → parseFieldDescriptor (TJ13 k).2.2.1 = some (tyJ13 k) := by decide +kernel
abbrev cJ13_init : ByteArray := prog_23_method_2_code
def yJ13_init : MethodName := ⟨RJ13, "<init>", "(Ljava/lang/String;)V"⟩
def dkwJ13_init_0 : List UInt8 := [42, 43, 183, 0, 7, 177]
abbrev dktJ13_init_0 : List UInt8 := dkwJ13_init_0 ++ []
theorem dksJ13_init_0 : cJ13_init.data.toList.drop 0 = dktJ13_init_0 := by decide +kernel
theorem dJ13_init_0 : decode cJ13_init 0 = .ok (.aload_n 0, 1) := dk_42 (dk_at dksJ13_init_0 0 rfl rfl)
theorem dJ13_init_1 : decode cJ13_init 1 = .ok (.aload_n 1, 1) := dk_43 (dk_at dksJ13_init_0 1 rfl rfl)
theorem dJ13_init_2 : decode cJ13_init 2 = .ok (.invokespecial 7, 3) := dk_183 0 7 (dk_at dksJ13_init_0 2 rfl rfl)
theorem dJ13_init_5 : decode cJ13_init 5 = .ok (.return_, 1) := dk_177 (dk_at dksJ13_init_0 5 rfl rfl)
theorem q103 : (Jvm.Cond.initialized "java/lang/ArithmeticException") ∈ lw_all := lw_g (lw_at lw_m1 32 rfl) rfl
theorem q638 : (Jvm.Cond.selects "java/lang/ArithmeticException" ({ cls := "java/lang/Throwable", name := "fillInStackTrace", desc := "()Ljava/lang/Throwable;" } : Jvm.MethodName) ({ cls := "java/lang/Throwable", name := "fillInStackTrace", desc := "()Ljava/lang/Throwable;" } : Jvm.MethodName)) ∈ lw_all := lw_g (lw_at lw_m3 87 rfl) rfl
theorem q1333 : (Jvm.Cond.instantiable "java/lang/ArithmeticException" (6 : Nat)) ∈ lw_all := lw_g (lw_at lw_m6 62 rfl) rfl
theorem q1334 : (Jvm.Cond.instanceMethod ({ cls := "java/lang/ArithmeticException", name := "<init>", desc := "(Ljava/lang/String;)V" } : Jvm.MethodName)) ∈ lw_all := lw_g (lw_at lw_m6 63 rfl) rfl
theorem q1335 : (Jvm.Cond.code ({ cls := "java/lang/ArithmeticException", name := "<init>", desc := "(Ljava/lang/String;)V" } : Jvm.MethodName) prog_23_method_2_code (2 : Nat) (Option.none : Option Jvm.ClassFile.FieldType)) ∈ lw_all := lw_g (lw_at lw_m6 64 rfl) rfl
theorem q1336 : (Jvm.Cond.methodLink "java/lang/ArithmeticException" (7 : Nat) ({ cls := "java/lang/RuntimeException", name := "<init>", desc := "(Ljava/lang/String;)V" } : Jvm.MethodName)) ∈ lw_all := lw_g (lw_at lw_m6 65 rfl) rfl
theorem q1337 : (Jvm.Cond.lays "java/lang/ArithmeticException" "java/lang/Throwable" "backtrace" "Ljava/lang/Object;") ∈ lw_all := lw_g (lw_at lw_m6 66 rfl) rfl
theorem q1338 : (Jvm.Cond.lays "java/lang/ArithmeticException" "java/lang/Throwable" "detailMessage" "Ljava/lang/String;") ∈ lw_all := lw_g (lw_at lw_m6 67 rfl) rfl
theorem q1339 : (Jvm.Cond.lays "java/lang/ArithmeticException" "java/lang/Throwable" "cause" "Ljava/lang/Throwable;") ∈ lw_all := lw_g (lw_at lw_m6 68 rfl) rfl
theorem q1340 : (Jvm.Cond.lays "java/lang/ArithmeticException" "java/lang/Throwable" "stackTrace" "[Ljava/lang/StackTraceElement;") ∈ lw_all := lw_g (lw_at lw_m6 69 rfl) rfl
theorem q1341 : (Jvm.Cond.lays "java/lang/ArithmeticException" "java/lang/Throwable" "depth" "I") ∈ lw_all := lw_g (lw_at lw_m6 70 rfl) rfl
theorem q1342 : (Jvm.Cond.lays "java/lang/ArithmeticException" "java/lang/Throwable" "suppressedExceptions" "Ljava/util/List;") ∈ lw_all := lw_g (lw_at lw_m6 71 rfl) rfl
theorem q1343 : (Jvm.Cond.superclass "java/lang/ArithmeticException" "java/lang/RuntimeException") ∈ lw_all := lw_g (lw_at lw_m6 72 rfl) rfl
theorem q1344 : (Jvm.Cond.castable "java/lang/ArithmeticException" "java/lang/ArithmeticException") ∈ lw_tbl := lw_at lw_m6 73 rfl
theorem q1345 : (Jvm.Cond.selects "java/lang/ArithmeticException" ({ cls := "java/lang/Throwable", name := "fillInStackTrace", desc := "(I)Ljava/lang/Throwable;" } : Jvm.MethodName) ({ cls := "java/lang/Throwable", name := "fillInStackTrace", desc := "(I)Ljava/lang/Throwable;" } : Jvm.MethodName)) ∈ lw_all := lw_g (lw_at lw_m6 74 rfl) rfl
theorem in_J13 : ∀ w ∈ wsJ130, w ∈ lw_all := lw_in wsJ130 [1337, 1338, 1339, 1340, 1341, 1342] (by decide +kernel) (by decide +kernel)
/-! java/lang/Object -/
set_option maxRecDepth 100000
def RJ14 : String := "java/lang/Object"
abbrev cJ14_init : ByteArray := object_method_1_code
def yJ14_init : MethodName := ⟨RJ14, "<init>", "()V"⟩
theorem dJ14_init_0 : decode cJ14_init 0 = .ok (.return_, 1) := by decide +kernel
theorem q110 : (Jvm.Cond.instanceMethod ({ cls := "java/lang/Object", name := "<init>", desc := "()V" } : Jvm.MethodName)) ∈ lw_all := lw_g (lw_at lw_m1 39 rfl) rfl
theorem q111 : (Jvm.Cond.code ({ cls := "java/lang/Object", name := "<init>", desc := "()V" } : Jvm.MethodName) object_method_1_code (1 : Nat) (Option.none : Option Jvm.ClassFile.FieldType)) ∈ lw_all := lw_g (lw_at lw_m1 40 rfl) rfl
/-! java/lang/Exception -/
set_option maxRecDepth 100000
def RJ2 : String := "java/lang/Exception"
abbrev cJ2_init : ByteArray := prog_26_method_2_code
def yJ2_init : MethodName := ⟨RJ2, "<init>", "(Ljava/lang/String;)V"⟩
def dkwJ2_init_0 : List UInt8 := [42, 43, 183, 0, 7, 177]
abbrev dktJ2_init_0 : List UInt8 := dkwJ2_init_0 ++ []
theorem dksJ2_init_0 : cJ2_init.data.toList.drop 0 = dktJ2_init_0 := by decide +kernel
theorem dJ2_init_0 : decode cJ2_init 0 = .ok (.aload_n 0, 1) := dk_42 (dk_at dksJ2_init_0 0 rfl rfl)
theorem dJ2_init_1 : decode cJ2_init 1 = .ok (.aload_n 1, 1) := dk_43 (dk_at dksJ2_init_0 1 rfl rfl)
theorem dJ2_init_2 : decode cJ2_init 2 = .ok (.invokespecial 7, 3) := dk_183 0 7 (dk_at dksJ2_init_0 2 rfl rfl)
theorem dJ2_init_5 : decode cJ2_init 5 = .ok (.return_, 1) := dk_177 (dk_at dksJ2_init_0 5 rfl rfl)
abbrev cJ2_init_2 : ByteArray := prog_26_method_5_code
def yJ2_init_2 : MethodName := ⟨RJ2, "<init>", "(Ljava/lang/String;Ljava/lang/Throwable;ZZ)V"⟩
def dkwJ2_init_2_0 : List UInt8 := [42, 43, 44, 29, 21, 4, 183, 0, 16, 177]
abbrev dktJ2_init_2_0 : List UInt8 := dkwJ2_init_2_0 ++ []
theorem dksJ2_init_2_0 : cJ2_init_2.data.toList.drop 0 = dktJ2_init_2_0 := by decide +kernel
theorem dJ2_init_2_0 : decode cJ2_init_2 0 = .ok (.aload_n 0, 1) := dk_42 (dk_at dksJ2_init_2_0 0 rfl rfl)
theorem dJ2_init_2_1 : decode cJ2_init_2 1 = .ok (.aload_n 1, 1) := dk_43 (dk_at dksJ2_init_2_0 1 rfl rfl)
theorem dJ2_init_2_2 : decode cJ2_init_2 2 = .ok (.aload_n 2, 1) := dk_44 (dk_at dksJ2_init_2_0 2 rfl rfl)
theorem dJ2_init_2_3 : decode cJ2_init_2 3 = .ok (.iload_n 3, 1) := dk_29 (dk_at dksJ2_init_2_0 3 rfl rfl)
theorem dJ2_init_2_4 : decode cJ2_init_2 4 = .ok (.iload 4, 2) := dk_21 4 (dk_at dksJ2_init_2_0 4 rfl rfl)
theorem dJ2_init_2_6 : decode cJ2_init_2 6 = .ok (.invokespecial 16, 3) := dk_183 0 16 (dk_at dksJ2_init_2_0 6 rfl rfl)
theorem dJ2_init_2_9 : decode cJ2_init_2 9 = .ok (.return_, 1) := dk_177 (dk_at dksJ2_init_2_0 9 rfl rfl)
abbrev cJ2_init_3 : ByteArray := prog_26_method_1_code
def yJ2_init_3 : MethodName := ⟨RJ2, "<init>", "()V"⟩
theorem dJ2_init_3_0 : decode cJ2_init_3 0 = .ok (.aload_n 0, 1) := by decide +kernel
theorem dJ2_init_3_1 : decode cJ2_init_3 1 = .ok (.invokespecial 1, 3) := by decide +kernel
theorem dJ2_init_3_4 : decode cJ2_init_3 4 = .ok (.return_, 1) := by decide +kernel
theorem q85 : (Jvm.Cond.initialized "java/lang/Exception") ∈ lw_all := lw_g (lw_at lw_m1 14 rfl) rfl
theorem q624 : (Jvm.Cond.instanceMethod ({ cls := "java/lang/Exception", name := "<init>", desc := "(Ljava/lang/String;)V" } : Jvm.MethodName)) ∈ lw_all := lw_g (lw_at lw_m3 73 rfl) rfl
theorem q625 : (Jvm.Cond.code ({ cls := "java/lang/Exception", name := "<init>", desc := "(Ljava/lang/String;)V" } : Jvm.MethodName) prog_26_method_2_code (2 : Nat) (Option.none : Option Jvm.ClassFile.FieldType)) ∈ lw_all := lw_g (lw_at lw_m3 74 rfl) rfl
theorem q626 : (Jvm.Cond.methodLink "java/lang/Exception" (7 : Nat) ({ cls := "java/lang/Throwable", name := "<init>", desc := "(Ljava/lang/String;)V" } : Jvm.MethodName)) ∈ lw_all := lw_g (lw_at lw_m3 75 rfl) rfl
theorem q656 : (Jvm.Cond.superclass "java/lang/Exception" "java/lang/Throwable") ∈ lw_all := lw_g (lw_at lw_m3 105 rfl) rfl
theorem q684 : (Jvm.Cond.declares ({ cls := "java/lang/Exception", name := "<init>", desc := "()V" } : Jvm.MethodName)) ∈ lw_tbl := lw_at lw_m3 133 rfl
theorem q685 : (Jvm.Cond.declares ({ cls := "java/lang/Exception", name := "<init>", desc := "(Ljava/lang/String;)V" } : Jvm.MethodName)) ∈ lw_tbl := lw_at lw_m3 134 rfl
theorem q1039 : (Jvm.Cond.instanceMethod ({ cls := "java/lang/Exception", name := "<init>", desc := "(Ljava/lang/String;Ljava/lang/Throwable;ZZ)V" } : Jvm.MethodName)) ∈ lw_all := lw_g (lw_at lw_m5 8 rfl) rfl
theorem q1040 : (Jvm.Cond.code ({ cls := "java/lang/Exception", name := "<init>", desc := "(Ljava/lang/String;Ljava/lang/Throwable;ZZ)V" } : Jvm.MethodName) prog_26_method_5_code (5 : Nat) (Option.none : Option Jvm.ClassFile.FieldType)) ∈ lw_all := lw_g (lw_at lw_m5 9 rfl) rfl
theorem q1041 : (Jvm.Cond.methodLink "java/lang/Exception" (16 : Nat) ({ cls := "java/lang/Throwable", name := "<init>", desc := "(Ljava/lang/String;Ljava/lang/Throwable;ZZ)V" } : Jvm.MethodName)) ∈ lw_all := lw_g (lw_at lw_m5 10 rfl) rfl
theorem q1191 : (Jvm.Cond.instanceMethod ({ cls := "java/lang/Exception", name := "<init>", desc := "()V" } : Jvm.MethodName)) ∈ lw_all := lw_g (lw_at lw_m5 160 rfl) rfl
theorem q1192 : (Jvm.Cond.code ({ cls := "java/lang/Exception", name := "<init>", desc := "()V" } : Jvm.MethodName) prog_26_method_1_code (1 : Nat) (Option.none : Option Jvm.ClassFile.FieldType)) ∈ lw_all := lw_g (lw_at lw_m5 161 rfl) rfl
theorem q1193 : (Jvm.Cond.methodLink "java/lang/Exception" (1 : Nat) ({ cls := "java/lang/Throwable", name := "<init>", desc := "()V" } : Jvm.MethodName)) ∈ lw_all := lw_g (lw_at lw_m5 162 rfl) rfl
/-! java/lang/RuntimeException -/
set_option maxRecDepth 100000
def RJ3 : String := "java/lang/RuntimeException"
abbrev cJ3_init : ByteArray := prog_31_method_2_code
def yJ3_init : MethodName := ⟨RJ3, "<init>", "(Ljava/lang/String;)V"⟩
def dkwJ3_init_0 : List UInt8 := [42, 43, 183, 0, 7, 177]
abbrev dktJ3_init_0 : List UInt8 := dkwJ3_init_0 ++ []
theorem dksJ3_init_0 : cJ3_init.data.toList.drop 0 = dktJ3_init_0 := by decide +kernel
theorem dJ3_init_0 : decode cJ3_init 0 = .ok (.aload_n 0, 1) := dk_42 (dk_at dksJ3_init_0 0 rfl rfl)
theorem dJ3_init_1 : decode cJ3_init 1 = .ok (.aload_n 1, 1) := dk_43 (dk_at dksJ3_init_0 1 rfl rfl)
theorem dJ3_init_2 : decode cJ3_init 2 = .ok (.invokespecial 7, 3) := dk_183 0 7 (dk_at dksJ3_init_0 2 rfl rfl)
theorem dJ3_init_5 : decode cJ3_init 5 = .ok (.return_, 1) := dk_177 (dk_at dksJ3_init_0 5 rfl rfl)
abbrev cJ3_init_2 : ByteArray := prog_31_method_1_code
def yJ3_init_2 : MethodName := ⟨RJ3, "<init>", "()V"⟩
theorem dJ3_init_2_0 : decode cJ3_init_2 0 = .ok (.aload_n 0, 1) := by decide +kernel
theorem dJ3_init_2_1 : decode cJ3_init_2 1 = .ok (.invokespecial 1, 3) := by decide +kernel
theorem dJ3_init_2_4 : decode cJ3_init_2 4 = .ok (.return_, 1) := by decide +kernel
theorem q86 : (Jvm.Cond.initialized "java/lang/RuntimeException") ∈ lw_all := lw_g (lw_at lw_m1 15 rfl) rfl
theorem q621 : (Jvm.Cond.instanceMethod ({ cls := "java/lang/RuntimeException", name := "<init>", desc := "(Ljava/lang/String;)V" } : Jvm.MethodName)) ∈ lw_all := lw_g (lw_at lw_m3 70 rfl) rfl
theorem q622 : (Jvm.Cond.code ({ cls := "java/lang/RuntimeException", name := "<init>", desc := "(Ljava/lang/String;)V" } : Jvm.MethodName) prog_31_method_2_code (2 : Nat) (Option.none : Option Jvm.ClassFile.FieldType)) ∈ lw_all := lw_g (lw_at lw_m3 71 rfl) rfl
theorem q623 : (Jvm.Cond.methodLink "java/lang/RuntimeException" (7 : Nat) ({ cls := "java/lang/Exception", name := "<init>", desc := "(Ljava/lang/String;)V" } : Jvm.MethodName)) ∈ lw_all := lw_g (lw_at lw_m3 72 rfl) rfl
theorem q652 : (Jvm.Cond.sameMethod "java/lang/RuntimeException" "java/lang/Throwable" "fillInStackTrace" "()Ljava/lang/Throwable;") ∈ lw_all := lw_g (lw_at lw_m3 101 rfl) rfl
theorem q655 : (Jvm.Cond.superclass "java/lang/RuntimeException" "java/lang/Exception") ∈ lw_all := lw_g (lw_at lw_m3 104 rfl) rfl
theorem q682 : (Jvm.Cond.declares ({ cls := "java/lang/RuntimeException", name := "<init>", desc := "()V" } : Jvm.MethodName)) ∈ lw_tbl := lw_at lw_m3 131 rfl
theorem q683 : (Jvm.Cond.declares ({ cls := "java/lang/RuntimeException", name := "<init>", desc := "(Ljava/lang/String;)V" } : Jvm.MethodName)) ∈ lw_tbl := lw_at lw_m3 132 rfl
theorem q1188 : (Jvm.Cond.instanceMethod ({ cls := "java/lang/RuntimeException", name := "<init>", desc := "()V" } : Jvm.MethodName)) ∈ lw_all := lw_g (lw_at lw_m5 157 rfl) rfl
theorem q1189 : (Jvm.Cond.code ({ cls := "java/lang/RuntimeException", name := "<init>", desc := "()V" } : Jvm.MethodName) prog_31_method_1_code (1 : Nat) (Option.none : Option Jvm.ClassFile.FieldType)) ∈ lw_all := lw_g (lw_at lw_m5 158 rfl) rfl
theorem q1190 : (Jvm.Cond.methodLink "java/lang/RuntimeException" (1 : Nat) ({ cls := "java/lang/Exception", name := "<init>", desc := "()V" } : Jvm.MethodName)) ∈ lw_all := lw_g (lw_at lw_m5 159 rfl) rfl
theorem q1208 : (Jvm.Cond.castable "java/lang/RuntimeException" "java/lang/Throwable") ∈ lw_tbl := lw_at lw_m5 177 rfl
/-! java/lang/ClassCastException -/
set_option maxRecDepth 100000
def RJ4 : String := "java/lang/ClassCastException"
def TJ4 : u_T := fun k => match k with
  | 0 => ("java/lang/Throwable", "backtrace", "Ljava/lang/Object;", false)
  | 1 => ("java/lang/Throwable", "detailMessage", "Ljava/lang/String;", false)
  | 2 => ("java/lang/Throwable", "cause", "Ljava/lang/Throwable;", false)
  | 3 => ("java/lang/Throwable", "stackTrace", "[Ljava/lang/StackTraceElement;", false)
  | 4 => ("java/lang/Throwable", "depth", "I", false)
  | _ => ("java/lang/Throwable", "suppressedExceptions", "Ljava/util/List;", false)
def tyJ4 : Nat → FieldType := fun k => match k with
  | 0 => .object "java/lang/Object"
  | 1 => .object "java/lang/String"
  | 2 => .object "java/lang/Throwable"
  | 3 => .array (.object "java/lang/StackTraceElement")
  | 4 => .int
  | _ => .object "java/util/List"
abbrev wsJ40 : List Cond := u_ws RJ4 TJ4 6
theorem nmJ4 : ∀ a, a < 6 → ∀ b, b < 6 → a ≠ b → (TJ4 a).2.1 ≠ (TJ4 b).2.1 := by decide +kernel
theorem tyJ4_ok : ∀ k, k < 6 → parseFieldDescriptor (TJ4 k).2.2.1 = some (tyJ4 k) := by decide +kernel
abbrev cJ4_init : ByteArray := prog_25_method_2_code
def yJ4_init : MethodName := ⟨RJ4, "<init>", "(Ljava/lang/String;)V"⟩
def dkwJ4_init_0 : List UInt8 := [42, 43, 183, 0, 7, 177]
abbrev dktJ4_init_0 : List UInt8 := dkwJ4_init_0 ++ []
theorem dksJ4_init_0 : cJ4_init.data.toList.drop 0 = dktJ4_init_0 := by decide +kernel
theorem dJ4_init_0 : decode cJ4_init 0 = .ok (.aload_n 0, 1) := dk_42 (dk_at dksJ4_init_0 0 rfl rfl)
theorem dJ4_init_1 : decode cJ4_init 1 = .ok (.aload_n 1, 1) := dk_43 (dk_at dksJ4_init_0 1 rfl rfl)
theorem dJ4_init_2 : decode cJ4_init 2 = .ok (.invokespecial 7, 3) := dk_183 0 7 (dk_at dksJ4_init_0 2 rfl rfl)
theorem dJ4_init_5 : decode cJ4_init 5 = .ok (.return_, 1) := dk_177 (dk_at dksJ4_init_0 5 rfl rfl)
theorem q87 : (Jvm.Cond.initialized "java/lang/ClassCastException") ∈ lw_all := lw_g (lw_at lw_m1 16 rfl) rfl
theorem q617 : (Jvm.Cond.instantiable "java/lang/ClassCastException" (6 : Nat)) ∈ lw_all := lw_g (lw_at lw_m3 66 rfl) rfl
theorem q618 : (Jvm.Cond.instanceMethod ({ cls := "java/lang/ClassCastException", name := "<init>", desc := "(Ljava/lang/String;)V" } : Jvm.MethodName)) ∈ lw_all := lw_g (lw_at lw_m3 67 rfl) rfl
theorem q619 : (Jvm.Cond.code ({ cls := "java/lang/ClassCastException", name := "<init>", desc := "(Ljava/lang/String;)V" } : Jvm.MethodName) prog_25_method_2_code (2 : Nat) (Option.none : Option Jvm.ClassFile.FieldType)) ∈ lw_all := lw_g (lw_at lw_m3 68 rfl) rfl
theorem q620 : (Jvm.Cond.methodLink "java/lang/ClassCastException" (7 : Nat) ({ cls := "java/lang/RuntimeException", name := "<init>", desc := "(Ljava/lang/String;)V" } : Jvm.MethodName)) ∈ lw_all := lw_g (lw_at lw_m3 69 rfl) rfl
theorem q640 : (Jvm.Cond.selects "java/lang/ClassCastException" ({ cls := "java/lang/Throwable", name := "fillInStackTrace", desc := "()Ljava/lang/Throwable;" } : Jvm.MethodName) ({ cls := "java/lang/Throwable", name := "fillInStackTrace", desc := "()Ljava/lang/Throwable;" } : Jvm.MethodName)) ∈ lw_all := lw_g (lw_at lw_m3 89 rfl) rfl
theorem q668 : (Jvm.Cond.lays "java/lang/ClassCastException" "java/lang/Throwable" "backtrace" "Ljava/lang/Object;") ∈ lw_all := lw_g (lw_at lw_m3 117 rfl) rfl
theorem q670 : (Jvm.Cond.lays "java/lang/ClassCastException" "java/lang/Throwable" "detailMessage" "Ljava/lang/String;") ∈ lw_all := lw_g (lw_at lw_m3 119 rfl) rfl
theorem q672 : (Jvm.Cond.lays "java/lang/ClassCastException" "java/lang/Throwable" "cause" "Ljava/lang/Throwable;") ∈ lw_all := lw_g (lw_at lw_m3 121 rfl) rfl
theorem q674 : (Jvm.Cond.lays "java/lang/ClassCastException" "java/lang/Throwable" "stackTrace" "[Ljava/lang/StackTraceElement;") ∈ lw_all := lw_g (lw_at lw_m3 123 rfl) rfl
theorem q676 : (Jvm.Cond.lays "java/lang/ClassCastException" "java/lang/Throwable" "depth" "I") ∈ lw_all := lw_g (lw_at lw_m3 125 rfl) rfl
theorem q678 : (Jvm.Cond.lays "java/lang/ClassCastException" "java/lang/Throwable" "suppressedExceptions" "Ljava/util/List;") ∈ lw_all := lw_g (lw_at lw_m3 127 rfl) rfl
theorem q680 : (Jvm.Cond.superclass "java/lang/ClassCastException" "java/lang/RuntimeException") ∈ lw_all := lw_g (lw_at lw_m3 129 rfl) rfl
theorem q681 : (Jvm.Cond.castable "java/lang/ClassCastException" "java/lang/ClassCastException") ∈ lw_tbl := lw_at lw_m3 130 rfl
theorem q688 : (Jvm.Cond.selects "java/lang/ClassCastException" ({ cls := "java/lang/Throwable", name := "fillInStackTrace", desc := "(I)Ljava/lang/Throwable;" } : Jvm.MethodName) ({ cls := "java/lang/Throwable", name := "fillInStackTrace", desc := "(I)Ljava/lang/Throwable;" } : Jvm.MethodName)) ∈ lw_all := lw_g (lw_at lw_m3 137 rfl) rfl
theorem in_J4 : ∀ w ∈ wsJ40, w ∈ lw_all := lw_in wsJ40 [668, 670, 672, 674, 676, 678] (by decide +kernel) (by decide +kernel)
/-! java/lang/String -/
set_option maxRecDepth 100000
def RJ5 : String := "java/lang/String"
def TJ5 : u_T := fun k => match k with
  | 0 => ("java/lang/String", "value", "[B", true)
  | _ => ("java/lang/String", "coder", "B", true)
def tyJ5 : Nat → FieldType := fun k => match k with
  | 0 => .array .byte
  | _ => .byte
abbrev wsJ50 : List Cond := u_ws RJ5 TJ5 2
theorem nmJ5 : ∀ a, a < 2 → ∀ b, b < 2 → a ≠ b → (TJ5 a).2.1 ≠ (TJ5 b).2.1 := by decide +kernel
theorem tyJ5_ok : ∀ k, k < 2 → parseFieldDescriptor (TJ5 k).2.2.1 = some (tyJ5 k) := by decide +kernel
abbrev cJ5_length : ByteArray := prog_32_method_54_code
def yJ5_length : MethodName := ⟨RJ5, "length", "()I"⟩
def dkwJ5_length_0 : List UInt8 := [42, 180, 0, 9, 190, 42, 182, 1, 79, 122, 172]
abbrev dktJ5_length_0 : List UInt8 := dkwJ5_length_0 ++ []
theorem dksJ5_length_0 : cJ5_length.data.toList.drop 0 = dktJ5_length_0 := by decide +kernel
theorem dJ5_length_0 : decode cJ5_length 0 = .ok (.aload_n 0, 1) := dk_42 (dk_at dksJ5_length_0 0 rfl rfl)
theorem dJ5_length_1 : decode cJ5_length 1 = .ok (.getfield 9, 3) := dk_180 0 9 (dk_at dksJ5_length_0 1 rfl rfl)
theorem dJ5_length_4 : decode cJ5_length 4 = .ok (.arraylength, 1) := dk_190 (dk_at dksJ5_length_0 4 rfl rfl)
theorem dJ5_length_5 : decode cJ5_length 5 = .ok (.aload_n 0, 1) := dk_42 (dk_at dksJ5_length_0 5 rfl rfl)
theorem dJ5_length_6 : decode cJ5_length 6 = .ok (.invokevirtual 335, 3) := dk_182 1 79 (dk_at dksJ5_length_0 6 rfl rfl)
theorem dJ5_length_9 : decode cJ5_length 9 = .ok (.ishr, 1) := dk_122 (dk_at dksJ5_length_0 9 rfl rfl)
theorem dJ5_length_10 : decode cJ5_length 10 = .ok (.ireturn, 1) := dk_172 (dk_at dksJ5_length_0 10 rfl rfl)
abbrev cJ5_coder : ByteArray := prog_32_method_152_code
def yJ5_coder : MethodName := ⟨RJ5, "coder", "()B"⟩
def dkwJ5_coder_0 : List UInt8 := [178, 0, 38, 153, 0, 10, 42, 180, 0, 15, 167, 0, 4, 4, 172]
abbrev dktJ5_coder_0 : List UInt8 := dkwJ5_coder_0 ++ []
theorem dksJ5_coder_0 : cJ5_coder.data.toList.drop 0 = dktJ5_coder_0 := by decide +kernel
theorem dJ5_coder_0 : decode cJ5_coder 0 = .ok (.getstatic 38, 3) := dk_178 0 38 (dk_at dksJ5_coder_0 0 rfl rfl)
theorem dJ5_coder_3 : decode cJ5_coder 3 = .ok (.ifCond .eq 10, 3) := dk_153 0 10 (dk_at dksJ5_coder_0 3 rfl rfl)
theorem dJ5_coder_6 : decode cJ5_coder 6 = .ok (.aload_n 0, 1) := dk_42 (dk_at dksJ5_coder_0 6 rfl rfl)
theorem dJ5_coder_7 : decode cJ5_coder 7 = .ok (.getfield 15, 3) := dk_180 0 15 (dk_at dksJ5_coder_0 7 rfl rfl)
theorem dJ5_coder_10 : decode cJ5_coder 10 = .ok (.goto 4, 3) := dk_167 0 4 (dk_at dksJ5_coder_0 10 rfl rfl)
theorem dJ5_coder_13 : decode cJ5_coder 13 = .ok (.iconst 1, 1) := dk_4 (dk_at dksJ5_coder_0 13 rfl rfl)
theorem dJ5_coder_14 : decode cJ5_coder 14 = .ok (.ireturn, 1) := dk_172 (dk_at dksJ5_coder_0 14 rfl rfl)
abbrev cJ5_charAt : ByteArray := prog_32_method_56_code
def yJ5_charAt : MethodName := ⟨RJ5, "charAt", "(I)C"⟩
def dkwJ5_charAt_1 : List UInt8 := [172]
abbrev dktJ5_charAt_1 : List UInt8 := dkwJ5_charAt_1 ++ []
def dkwJ5_charAt_0 : List UInt8 := [42, 182, 1, 236, 153, 0, 12, 42, 180, 0, 9, 27, 184, 1, 239, 172, 42, 180, 0, 9, 27, 184, 1, 242]
abbrev dktJ5_charAt_0 : List UInt8 := dkwJ5_charAt_0 ++ dktJ5_charAt_1
theorem dksJ5_charAt_0 : cJ5_charAt.data.toList.drop 0 = dktJ5_charAt_0 := by decide +kernel
theorem dksJ5_charAt_1 : cJ5_charAt.data.toList.drop 24 = dktJ5_charAt_1 := dk_seg dksJ5_charAt_0 24 rfl rfl
theorem dJ5_charAt_0 : decode cJ5_charAt 0 = .ok (.aload_n 0, 1) := dk_42 (dk_at dksJ5_charAt_0 0 rfl rfl)
theorem dJ5_charAt_1 : decode cJ5_charAt 1 = .ok (.invokevirtual 492, 3) := dk_182 1 236 (dk_at dksJ5_charAt_0 1 rfl rfl)
theorem dJ5_charAt_4 : decode cJ5_charAt 4 = .ok (.ifCond .eq 12, 3) := dk_153 0 12 (dk_at dksJ5_charAt_0 4 rfl rfl)
theorem dJ5_charAt_7 : decode cJ5_charAt 7 = .ok (.aload_n 0, 1) := dk_42 (dk_at dksJ5_charAt_0 7 rfl rfl)
theorem dJ5_charAt_8 : decode cJ5_charAt 8 = .ok (.getfield 9, 3) := dk_180 0 9 (dk_at dksJ5_charAt_0 8 rfl rfl)
theorem dJ5_charAt_11 : decode cJ5_charAt 11 = .ok (.iload_n 1, 1) := dk_27 (dk_at dksJ5_charAt_0 11 rfl rfl)
theorem dJ5_charAt_12 : decode cJ5_charAt 12 = .ok (.invokestatic 495, 3) := dk_184 1 239 (dk_at dksJ5_charAt_0 12 rfl rfl)
theorem dJ5_charAt_15 : decode cJ5_charAt 15 = .ok (.ireturn, 1) := dk_172 (dk_at dksJ5_charAt_0 15 rfl rfl)
theorem dJ5_charAt_16 : decode cJ5_charAt 16 = .ok (.aload_n 0, 1) := dk_42 (dk_at dksJ5_charAt_0 16 rfl rfl)
theorem dJ5_charAt_17 : decode cJ5_charAt 17 = .ok (.getfield 9, 3) := dk_180 0 9 (dk_at dksJ5_charAt_0 17 rfl rfl)
theorem dJ5_charAt_20 : decode cJ5_charAt 20 = .ok (.iload_n 1, 1) := dk_27 (dk_at dksJ5_charAt_0 20 rfl rfl)
theorem dJ5_charAt_21 : decode cJ5_charAt 21 = .ok (.invokestatic 498, 3) := dk_184 1 242 (dk_at dksJ5_charAt_0 21 rfl rfl)
theorem dJ5_charAt_24 : decode cJ5_charAt 24 = .ok (.ireturn, 1) := dk_172 (dk_at dksJ5_charAt_1 0 rfl rfl)
abbrev cJ5_isLatin1 : ByteArray := prog_32_method_154_code
def yJ5_isLatin1 : MethodName := ⟨RJ5, "isLatin1", "()Z"⟩
def dkwJ5_isLatin1_0 : List UInt8 := [178, 0, 38, 153, 0, 14, 42, 180, 0, 15, 154, 0, 7, 4, 167, 0, 4, 3, 172]
abbrev dktJ5_isLatin1_0 : List UInt8 := dkwJ5_isLatin1_0 ++ []
theorem dksJ5_isLatin1_0 : cJ5_isLatin1.data.toList.drop 0 = dktJ5_isLatin1_0 := by decide +kernel
theorem dJ5_isLatin1_0 : decode cJ5_isLatin1 0 = .ok (.getstatic 38, 3) := dk_178 0 38 (dk_at dksJ5_isLatin1_0 0 rfl rfl)
theorem dJ5_isLatin1_3 : decode cJ5_isLatin1 3 = .ok (.ifCond .eq 14, 3) := dk_153 0 14 (dk_at dksJ5_isLatin1_0 3 rfl rfl)
theorem dJ5_isLatin1_6 : decode cJ5_isLatin1 6 = .ok (.aload_n 0, 1) := dk_42 (dk_at dksJ5_isLatin1_0 6 rfl rfl)
theorem dJ5_isLatin1_7 : decode cJ5_isLatin1 7 = .ok (.getfield 15, 3) := dk_180 0 15 (dk_at dksJ5_isLatin1_0 7 rfl rfl)
theorem dJ5_isLatin1_10 : decode cJ5_isLatin1 10 = .ok (.ifCond .ne 7, 3) := dk_154 0 7 (dk_at dksJ5_isLatin1_0 10 rfl rfl)
theorem dJ5_isLatin1_13 : decode cJ5_isLatin1 13 = .ok (.iconst 1, 1) := dk_4 (dk_at dksJ5_isLatin1_0 13 rfl rfl)
theorem dJ5_isLatin1_14 : decode cJ5_isLatin1 14 = .ok (.goto 4, 3) := dk_167 0 4 (dk_at dksJ5_isLatin1_0 14 rfl rfl)
theorem dJ5_isLatin1_17 : decode cJ5_isLatin1 17 = .ok (.iconst 0, 1) := dk_3 (dk_at dksJ5_isLatin1_0 17 rfl rfl)
theorem dJ5_isLatin1_18 : decode cJ5_isLatin1 18 = .ok (.ireturn, 1) := dk_172 (dk_at dksJ5_isLatin1_0 18 rfl rfl)
abbrev cJ5_checkIndex : ByteArray := prog_32_method_155_code
def yJ5_checkIndex : MethodName := ⟨RJ5, "checkIndex", "(II)V"⟩
def dkwJ5_checkIndex_0 : List UInt8 := [26, 27, 178, 4, 29, 184, 4, 35, 87, 177]
abbrev dktJ5_checkIndex_0 : List UInt8 := dkwJ5_checkIndex_0 ++ []
theorem dksJ5_checkIndex_0 : cJ5_checkIndex.data.toList.drop 0 = dktJ5_checkIndex_0 := by decide +kernel
theorem dJ5_checkIndex_0 : decode cJ5_checkIndex 0 = .ok (.iload_n 0, 1) := dk_26 (dk_at dksJ5_checkIndex_0 0 rfl rfl)
theorem dJ5_checkIndex_1 : decode cJ5_checkIndex 1 = .ok (.iload_n 1, 1) := dk_27 (dk_at dksJ5_checkIndex_0 1 rfl rfl)
theorem dJ5_checkIndex_2 : decode cJ5_checkIndex 2 = .ok (.getstatic 1053, 3) := dk_178 4 29 (dk_at dksJ5_checkIndex_0 2 rfl rfl)
theorem dJ5_checkIndex_5 : decode cJ5_checkIndex 5 = .ok (.invokestatic 1059, 3) := dk_184 4 35 (dk_at dksJ5_checkIndex_0 5 rfl rfl)
theorem dJ5_checkIndex_8 : decode cJ5_checkIndex 8 = .ok (.pop, 1) := dk_87 (dk_at dksJ5_checkIndex_0 8 rfl rfl)
theorem dJ5_checkIndex_9 : decode cJ5_checkIndex 9 = .ok (.return_, 1) := dk_177 (dk_at dksJ5_checkIndex_0 9 rfl rfl)
theorem q88 : (Jvm.Cond.initialized "java/lang/String") ∈ lw_all := lw_g (lw_at lw_m1 17 rfl) rfl
theorem q698 : (Jvm.Cond.instantiable "java/lang/String" (4 : Nat)) ∈ lw_all := lw_g (lw_at lw_m3 147 rfl) rfl
theorem q699 : (Jvm.Cond.laysFinal "java/lang/String" "java/lang/String" "value" "[B") ∈ lw_all := lw_g (lw_at lw_m3 148 rfl) rfl
theorem q700 : (Jvm.Cond.soleField "java/lang/String" "value") ∈ lw_all := lw_g (lw_at lw_m3 149 rfl) rfl
theorem q701 : (Jvm.Cond.laysFinal "java/lang/String" "java/lang/String" "coder" "B") ∈ lw_all := lw_g (lw_at lw_m3 150 rfl) rfl
theorem q702 : (Jvm.Cond.soleField "java/lang/String" "coder") ∈ lw_all := lw_g (lw_at lw_m3 151 rfl) rfl
theorem q974 : (Jvm.Cond.instanceMethod ({ cls := "java/lang/String", name := "length", desc := "()I" } : Jvm.MethodName)) ∈ lw_all := lw_g (lw_at lw_m4 183 rfl) rfl
theorem q975 : (Jvm.Cond.selects "java/lang/String" ({ cls := "java/lang/String", name := "length", desc := "()I" } : Jvm.MethodName) ({ cls := "java/lang/String", name := "length", desc := "()I" } : Jvm.MethodName)) ∈ lw_all := lw_g (lw_at lw_m4 184 rfl) rfl
theorem q976 : (Jvm.Cond.code ({ cls := "java/lang/String", name := "length", desc := "()I" } : Jvm.MethodName) prog_32_method_54_code (1 : Nat) (Option.some Jvm.ClassFile.FieldType.int)) ∈ lw_all := lw_g (lw_at lw_m4 185 rfl) rfl
theorem q977 : (Jvm.Cond.methodLink "java/lang/String" (335 : Nat) ({ cls := "java/lang/String", name := "coder", desc := "()B" } : Jvm.MethodName)) ∈ lw_all := lw_g (lw_at lw_m4 186 rfl) rfl
theorem q978 : (Jvm.Cond.instanceMethod ({ cls := "java/lang/String", name := "coder", desc := "()B" } : Jvm.MethodName)) ∈ lw_all := lw_g (lw_at lw_m4 187 rfl) rfl
theorem q979 : (Jvm.Cond.selects "java/lang/String" ({ cls := "java/lang/String", name := "coder", desc := "()B" } : Jvm.MethodName) ({ cls := "java/lang/String", name := "coder", desc := "()B" } : Jvm.MethodName)) ∈ lw_all := lw_g (lw_at lw_m4 188 rfl) rfl
theorem q980 : (Jvm.Cond.code ({ cls := "java/lang/String", name := "coder", desc := "()B" } : Jvm.MethodName) prog_32_method_152_code (1 : Nat) (Option.some Jvm.ClassFile.FieldType.byte)) ∈ lw_all := lw_g (lw_at lw_m4 189 rfl) rfl
theorem q981 : (Jvm.Cond.fieldLink "java/lang/String" (38 : Nat) "java/lang/String" "COMPACT_STRINGS" "Z") ∈ lw_all := lw_g (lw_at lw_m4 190 rfl) rfl
theorem q982 : (Jvm.Cond.laysStatic "java/lang/String" "COMPACT_STRINGS" "Z") ∈ lw_tbl := lw_at lw_m4 191 rfl
theorem q984 : (Jvm.Cond.instanceMethod ({ cls := "java/lang/String", name := "charAt", desc := "(I)C" } : Jvm.MethodName)) ∈ lw_all := lw_g (lw_at lw_m4 193 rfl) rfl
theorem q985 : (Jvm.Cond.selects "java/lang/String" ({ cls := "java/lang/String", name := "charAt", desc := "(I)C" } : Jvm.MethodName) ({ cls := "java/lang/String", name := "charAt", desc := "(I)C" } : Jvm.MethodName)) ∈ lw_all := lw_g (lw_at lw_m4 194 rfl) rfl
theorem q986 : (Jvm.Cond.code ({ cls := "java/lang/String", name := "charAt", desc := "(I)C" } : Jvm.MethodName) prog_32_method_56_code (2 : Nat) (Option.some Jvm.ClassFile.FieldType.char)) ∈ lw_all := lw_g (lw_at lw_m4 195 rfl) rfl
theorem q987 : (Jvm.Cond.methodLink "java/lang/String" (492 : Nat) ({ cls := "java/lang/String", name := "isLatin1", desc := "()Z" } : Jvm.MethodName)) ∈ lw_all := lw_g (lw_at lw_m4 196 rfl) rfl
theorem q988 : (Jvm.Cond.instanceMethod ({ cls := "java/lang/String", name := "isLatin1", desc := "()Z" } : Jvm.MethodName)) ∈ lw_all := lw_g (lw_at lw_m4 197 rfl) rfl
theorem q989 : (Jvm.Cond.selects "java/lang/String" ({ cls := "java/lang/String", name := "isLatin1", desc := "()Z" } : Jvm.MethodName) ({ cls := "java/lang/String", name := "isLatin1", desc := "()Z" } : Jvm.MethodName)) ∈ lw_all := lw_g (lw_at lw_m4 198 rfl) rfl
theorem q990 : (Jvm.Cond.code ({ cls := "java/lang/String", name := "isLatin1", desc := "()Z" } : Jvm.MethodName) prog_32_method_154_code (1 : Nat) (Option.some Jvm.ClassFile.FieldType.boolean)) ∈ lw_all := lw_g (lw_at lw_m4 199 rfl) rfl
theorem q991 : (Jvm.Cond.methodLink "java/lang/String" (495 : Nat) ({ cls := "java/lang/StringLatin1", name := "charAt", desc := "([BI)C" } : Jvm.MethodName)) ∈ lw_all := lw_g (lw_at lw_m4 200 rfl) rfl
theorem q995 : (Jvm.Cond.static ({ cls := "java/lang/String", name := "checkIndex", desc := "(II)V" } : Jvm.MethodName)) ∈ lw_all := lw_g (lw_at lw_m4 204 rfl) rfl
theorem q996 : (Jvm.Cond.code ({ cls := "java/lang/String", name := "checkIndex", desc := "(II)V" } : Jvm.MethodName) prog_32_method_155_code (2 : Nat) (Option.none : Option Jvm.ClassFile.FieldType)) ∈ lw_all := lw_g (lw_at lw_m4 205 rfl) rfl
theorem q997 : (Jvm.Cond.fieldLink "java/lang/String" (1053 : Nat) "jdk/internal/util/Preconditions" "SIOOBE_FORMATTER" "Ljava/util/function/BiFunction;") ∈ lw_all := lw_g (lw_at lw_m4 206 rfl) rfl
theorem q999 : (Jvm.Cond.methodLink "java/lang/String" (1059 : Nat) ({ cls := "jdk/internal/util/Preconditions", name := "checkIndex", desc := "(IILjava/util/function/BiFunction;)I" } : Jvm.MethodName)) ∈ lw_all := lw_g (lw_at lw_m4 208 rfl) rfl
theorem q1002 : (Jvm.Cond.methodLink "java/lang/String" (498 : Nat) ({ cls := "java/lang/StringUTF16", name := "charAt", desc := "([BI)C" } : Jvm.MethodName)) ∈ lw_all := lw_g (lw_at lw_m4 211 rfl) rfl
theorem q1878 : (Jvm.Cond.fieldLink "java/lang/String" (9 : Nat) "java/lang/String" "value" "[B") ∈ lw_all := lw_g (lw_at lw_m8 127 rfl) rfl
theorem q1879 : (Jvm.Cond.fieldLink "java/lang/String" (15 : Nat) "java/lang/String" "coder" "B") ∈ lw_all := lw_g (lw_at lw_m8 128 rfl) rfl
theorem in_J5 : ∀ w ∈ wsJ50, w ∈ lw_all := lw_in wsJ50 [699, 701] (by decide +kernel) (by decide +kernel)
/-! java/lang/StringLatin1 -/
set_option maxRecDepth 100000
def RJ6 : String := "java/lang/StringLatin1"
abbrev cJ6_charAt : ByteArray := prog_33_method_2_code
def yJ6_charAt : MethodName := ⟨RJ6, "charAt", "([BI)C"⟩
def dkwJ6_charAt_0 : List UInt8 := [27, 42, 190, 184, 0, 9, 42, 27, 51, 17, 0, 255, 126, 146, 172]
abbrev dktJ6_charAt_0 : List UInt8 := dkwJ6_charAt_0 ++ []
theorem dksJ6_charAt_0 : cJ6_charAt.data.toList.drop 0 = dktJ6_charAt_0 := by decide +kernel
theorem dJ6_charAt_0 : decode cJ6_charAt 0 = .ok (.iload_n 1, 1) := dk_27 (dk_at dksJ6_charAt_0 0 rfl rfl)
theorem dJ6_charAt_1 : decode cJ6_charAt 1 = .ok (.aload_n 0, 1) := dk_42 (dk_at dksJ6_charAt_0 1 rfl rfl)
theorem dJ6_charAt_2 : decode cJ6_charAt 2 = .ok (.arraylength, 1) := dk_190 (dk_at dksJ6_charAt_0 2 rfl rfl)
theorem dJ6_charAt_3 : decode cJ6_charAt 3 = .ok (.invokestatic 9, 3) := dk_184 0 9 (dk_at dksJ6_charAt_0 3 rfl rfl)
theorem dJ6_charAt_6 : decode cJ6_charAt 6 = .ok (.aload_n 0, 1) := dk_42 (dk_at dksJ6_charAt_0 6 rfl rfl)
theorem dJ6_charAt_7 : decode cJ6_charAt 7 = .ok (.iload_n 1, 1) := dk_27 (dk_at dksJ6_charAt_0 7 rfl rfl)
theorem dJ6_charAt_8 : decode cJ6_charAt 8 = .ok (.baload, 1) := dk_51 (dk_at dksJ6_charAt_0 8 rfl rfl)
theorem dJ6_charAt_9 : decode cJ6_charAt 9 = .ok (.sipush 255, 3) := dk_17 0 255 (dk_at dksJ6_charAt_0 9 rfl rfl)
theorem dJ6_charAt_12 : decode cJ6_charAt 12 = .ok (.iand, 1) := dk_126 (dk_at dksJ6_charAt_0 12 rfl rfl)
theorem dJ6_charAt_13 : decode cJ6_charAt 13 = .ok (.i2c, 1) := dk_146 (dk_at dksJ6_charAt_0 13 rfl rfl)
theorem dJ6_charAt_14 : decode cJ6_charAt 14 = .ok (.ireturn, 1) := dk_172 (dk_at dksJ6_charAt_0 14 rfl rfl)
theorem q90 : (Jvm.Cond.initialized "java/lang/StringLatin1") ∈ lw_all := lw_g (lw_at lw_m1 19 rfl) rfl
theorem q992 : (Jvm.Cond.static ({ cls := "java/lang/StringLatin1", name := "charAt", desc := "([BI)C" } : Jvm.MethodName)) ∈ lw_all := lw_g (lw_at lw_m4 201 rfl) rfl
theorem q993 : (Jvm.Cond.code ({ cls := "java/lang/StringLatin1", name := "charAt", desc := "([BI)C" } : Jvm.MethodName) prog_33_method_2_code (2 : Nat) (Option.some Jvm.ClassFile.FieldType.char)) ∈ lw_all := lw_g (lw_at lw_m4 202 rfl) rfl
theorem q994 : (Jvm.Cond.methodLink "java/lang/StringLatin1" (9 : Nat) ({ cls := "java/lang/String", name := "checkIndex", desc := "(II)V" } : Jvm.MethodName)) ∈ lw_all := lw_g (lw_at lw_m4 203 rfl) rfl
/-! jdk/internal/util/Preconditions -/
set_option maxRecDepth 100000
def RJ7 : String := "jdk/internal/util/Preconditions"
abbrev cJ7_checkIndex : ByteArray := prog_37_method_11_code
def yJ7_checkIndex : MethodName := ⟨RJ7, "checkIndex", "(IILjava/util/function/BiFunction;)I"⟩
def dkwJ7_checkIndex_0 : List UInt8 := [26, 155, 0, 8, 26, 27, 161, 0, 10, 44, 26, 27, 184, 0, 95, 191, 26, 172]
abbrev dktJ7_checkIndex_0 : List UInt8 := dkwJ7_checkIndex_0 ++ []
theorem dksJ7_checkIndex_0 : cJ7_checkIndex.data.toList.drop 0 = dktJ7_checkIndex_0 := by decide +kernel
theorem dJ7_checkIndex_0 : decode cJ7_checkIndex 0 = .ok (.iload_n 0, 1) := dk_26 (dk_at dksJ7_checkIndex_0 0 rfl rfl)
theorem dJ7_checkIndex_1 : decode cJ7_checkIndex 1 = .ok (.ifCond .lt 8, 3) := dk_155 0 8 (dk_at dksJ7_checkIndex_0 1 rfl rfl)
theorem dJ7_checkIndex_4 : decode cJ7_checkIndex 4 = .ok (.iload_n 0, 1) := dk_26 (dk_at dksJ7_checkIndex_0 4 rfl rfl)
theorem dJ7_checkIndex_5 : decode cJ7_checkIndex 5 = .ok (.iload_n 1, 1) := dk_27 (dk_at dksJ7_checkIndex_0 5 rfl rfl)
theorem dJ7_checkIndex_6 : decode cJ7_checkIndex 6 = .ok (.if_icmp .lt 10, 3) := dk_161 0 10 (dk_at dksJ7_checkIndex_0 6 rfl rfl)
theorem dJ7_checkIndex_9 : decode cJ7_checkIndex 9 = .ok (.aload_n 2, 1) := dk_44 (dk_at dksJ7_checkIndex_0 9 rfl rfl)
theorem dJ7_checkIndex_10 : decode cJ7_checkIndex 10 = .ok (.iload_n 0, 1) := dk_26 (dk_at dksJ7_checkIndex_0 10 rfl rfl)
theorem dJ7_checkIndex_11 : decode cJ7_checkIndex 11 = .ok (.iload_n 1, 1) := dk_27 (dk_at dksJ7_checkIndex_0 11 rfl rfl)
theorem dJ7_checkIndex_12 : decode cJ7_checkIndex 12 = .ok (.invokestatic 95, 3) := dk_184 0 95 (dk_at dksJ7_checkIndex_0 12 rfl rfl)
theorem dJ7_checkIndex_15 : decode cJ7_checkIndex 15 = .ok (.athrow, 1) := dk_191 (dk_at dksJ7_checkIndex_0 15 rfl rfl)
theorem dJ7_checkIndex_16 : decode cJ7_checkIndex 16 = .ok (.iload_n 0, 1) := dk_26 (dk_at dksJ7_checkIndex_0 16 rfl rfl)
theorem dJ7_checkIndex_17 : decode cJ7_checkIndex 17 = .ok (.ireturn, 1) := dk_172 (dk_at dksJ7_checkIndex_0 17 rfl rfl)
theorem q91 : (Jvm.Cond.initialized "jdk/internal/util/Preconditions") ∈ lw_all := lw_g (lw_at lw_m1 20 rfl) rfl
theorem q998 : (Jvm.Cond.laysStatic "jdk/internal/util/Preconditions" "SIOOBE_FORMATTER" "Ljava/util/function/BiFunction;") ∈ lw_tbl := lw_at lw_m4 207 rfl
theorem q1000 : (Jvm.Cond.static ({ cls := "jdk/internal/util/Preconditions", name := "checkIndex", desc := "(IILjava/util/function/BiFunction;)I" } : Jvm.MethodName)) ∈ lw_all := lw_g (lw_at lw_m4 209 rfl) rfl
theorem q1001 : (Jvm.Cond.code ({ cls := "jdk/internal/util/Preconditions", name := "checkIndex", desc := "(IILjava/util/function/BiFunction;)I" } : Jvm.MethodName) prog_37_method_11_code (3 : Nat) (Option.some Jvm.ClassFile.FieldType.int)) ∈ lw_all := lw_g (lw_at lw_m4 210 rfl) rfl
/-! java/lang/StringUTF16 -/
set_option maxRecDepth 100000
def RJ8 : String := "java/lang/StringUTF16"
abbrev cJ8_charAt : ByteArray := prog_34_method_83_code
def yJ8_charAt : MethodName := ⟨RJ8, "charAt", "([BI)C"⟩
def dkwJ8_charAt_0 : List UInt8 := [27, 42, 184, 0, 67, 42, 27, 184, 0, 71, 172]
abbrev dktJ8_charAt_0 : List UInt8 := dkwJ8_charAt_0 ++ []
theorem dksJ8_charAt_0 : cJ8_charAt.data.toList.drop 0 = dktJ8_charAt_0 := by decide +kernel
theorem dJ8_charAt_0 : decode cJ8_charAt 0 = .ok (.iload_n 1, 1) := dk_27 (dk_at dksJ8_charAt_0 0 rfl rfl)
theorem dJ8_charAt_1 : decode cJ8_charAt 1 = .ok (.aload_n 0, 1) := dk_42 (dk_at dksJ8_charAt_0 1 rfl rfl)
theorem dJ8_charAt_2 : decode cJ8_charAt 2 = .ok (.invokestatic 67, 3) := dk_184 0 67 (dk_at dksJ8_charAt_0 2 rfl rfl)
theorem dJ8_charAt_5 : decode cJ8_charAt 5 = .ok (.aload_n 0, 1) := dk_42 (dk_at dksJ8_charAt_0 5 rfl rfl)
theorem dJ8_charAt_6 : decode cJ8_charAt 6 = .ok (.iload_n 1, 1) := dk_27 (dk_at dksJ8_charAt_0 6 rfl rfl)
theorem dJ8_charAt_7 : decode cJ8_charAt 7 = .ok (.invokestatic 71, 3) := dk_184 0 71 (dk_at dksJ8_charAt_0 7 rfl rfl)
theorem dJ8_charAt_10 : decode cJ8_charAt 10 = .ok (.ireturn, 1) := dk_172 (dk_at dksJ8_charAt_0 10 rfl rfl)
abbrev cJ8_checkIndex : ByteArray := prog_34_method_91_code
def yJ8_checkIndex : MethodName := ⟨RJ8, "checkIndex", "(I[B)V"⟩
def dkwJ8_checkIndex_0 : List UInt8 := [26, 43, 184, 0, 48, 184, 1, 158, 177]
abbrev dktJ8_checkIndex_0 : List UInt8 := dkwJ8_checkIndex_0 ++ []
theorem dksJ8_checkIndex_0 : cJ8_checkIndex.data.toList.drop 0 = dktJ8_checkIndex_0 := by decide +kernel
theorem dJ8_checkIndex_0 : decode cJ8_checkIndex 0 = .ok (.iload_n 0, 1) := dk_26 (dk_at dksJ8_checkIndex_0 0 rfl rfl)
theorem dJ8_checkIndex_1 : decode cJ8_checkIndex 1 = .ok (.aload_n 1, 1) := dk_43 (dk_at dksJ8_checkIndex_0 1 rfl rfl)
theorem dJ8_checkIndex_2 : decode cJ8_checkIndex 2 = .ok (.invokestatic 48, 3) := dk_184 0 48 (dk_at dksJ8_checkIndex_0 2 rfl rfl)
theorem dJ8_checkIndex_5 : decode cJ8_checkIndex 5 = .ok (.invokestatic 414, 3) := dk_184 1 158 (dk_at dksJ8_checkIndex_0 5 rfl rfl)
theorem dJ8_checkIndex_8 : decode cJ8_checkIndex 8 = .ok (.return_, 1) := dk_177 (dk_at dksJ8_checkIndex_0 8 rfl rfl)
abbrev cJ8_length : ByteArray := prog_34_method_6_code
def yJ8_length : MethodName := ⟨RJ8, "length", "([B)I"⟩
def dkwJ8_length_0 : List UInt8 := [42, 190, 4, 122, 172]
abbrev dktJ8_length_0 : List UInt8 := dkwJ8_length_0 ++ []
theorem dksJ8_length_0 : cJ8_length.data.toList.drop 0 = dktJ8_length_0 := by decide +kernel
theorem dJ8_length_0 : decode cJ8_length 0 = .ok (.aload_n 0, 1) := dk_42 (dk_at dksJ8_length_0 0 rfl rfl)
theorem dJ8_length_1 : decode cJ8_length 1 = .ok (.arraylength, 1) := dk_190 (dk_at dksJ8_length_0 1 rfl rfl)
theorem dJ8_length_2 : decode cJ8_length 2 = .ok (.iconst 1, 1) := dk_4 (dk_at dksJ8_length_0 2 rfl rfl)
theorem dJ8_length_3 : decode cJ8_length 3 = .ok (.ishr, 1) := dk_122 (dk_at dksJ8_length_0 3 rfl rfl)
theorem dJ8_length_4 : decode cJ8_length 4 = .ok (.ireturn, 1) := dk_172 (dk_at dksJ8_length_0 4 rfl rfl)
abbrev cJ8_getChar : ByteArray := prog_34_method_5_code
def yJ8_getChar : MethodName := ⟨RJ8, "getChar", "([BI)C"⟩
def dkwJ8_getChar_2 : List UInt8 := [51, 17, 0, 255, 126, 178, 0, 63, 120, 128, 146, 172]
abbrev dktJ8_getChar_2 : List UInt8 := dkwJ8_getChar_2 ++ []
def dkwJ8_getChar_1 : List UInt8 := [183, 0, 56, 191, 27, 4, 120, 60, 42, 27, 132, 1, 1, 51, 17, 0, 255, 126, 178, 0, 59, 120, 42, 27]
abbrev dktJ8_getChar_1 : List UInt8 := dkwJ8_getChar_1 ++ dktJ8_getChar_2
def dkwJ8_getChar_0 : List UInt8 := [178, 0, 44, 154, 0, 25, 27, 155, 0, 11, 27, 42, 184, 0, 48, 161, 0, 13, 187, 0, 52, 89, 18, 54]
abbrev dktJ8_getChar_0 : List UInt8 := dkwJ8_getChar_0 ++ dktJ8_getChar_1
theorem dksJ8_getChar_0 : cJ8_getChar.data.toList.drop 0 = dktJ8_getChar_0 := by decide +kernel
theorem dksJ8_getChar_1 : cJ8_getChar.data.toList.drop 24 = dktJ8_getChar_1 := dk_seg dksJ8_getChar_0 24 rfl rfl
theorem dksJ8_getChar_2 : cJ8_getChar.data.toList.drop 48 = dktJ8_getChar_2 := dk_seg dksJ8_getChar_1 24 rfl rfl
theorem dJ8_getChar_0 : decode cJ8_getChar 0 = .ok (.getstatic 44, 3) := dk_178 0 44 (dk_at dksJ8_getChar_0 0 rfl rfl)
theorem dJ8_getChar_3 : decode cJ8_getChar 3 = .ok (.ifCond .ne 25, 3) := dk_154 0 25 (dk_at dksJ8_getChar_0 3 rfl rfl)
theorem dJ8_getChar_6 : decode cJ8_getChar 6 = .ok (.iload_n 1, 1) := dk_27 (dk_at dksJ8_getChar_0 6 rfl rfl)
theorem dJ8_getChar_7 : decode cJ8_getChar 7 = .ok (.ifCond .lt 11, 3) := dk_155 0 11 (dk_at dksJ8_getChar_0 7 rfl rfl)
theorem dJ8_getChar_10 : decode cJ8_getChar 10 = .ok (.iload_n 1, 1) := dk_27 (dk_at dksJ8_getChar_0 10 rfl rfl)
theorem dJ8_getChar_11 : decode cJ8_getChar 11 = .ok (.aload_n 0, 1) := dk_42 (dk_at dksJ8_getChar_0 11 rfl rfl)
theorem dJ8_getChar_12 : decode cJ8_getChar 12 = .ok (.invokestatic 48, 3) := dk_184 0 48 (dk_at dksJ8_getChar_0 12 rfl rfl)
theorem dJ8_getChar_15 : decode cJ8_getChar 15 = .ok (.if_icmp .lt 13, 3) := dk_161 0 13 (dk_at dksJ8_getChar_0 15 rfl rfl)
theorem dJ8_getChar_18 : decode cJ8_getChar 18 = .ok (.new 52, 3) := dk_187 0 52 (dk_at dksJ8_getChar_0 18 rfl rfl)
theorem dJ8_getChar_21 : decode cJ8_getChar 21 = .ok (.dup, 1) := dk_89 (dk_at dksJ8_getChar_0 21 rfl rfl)
theorem dJ8_getChar_22 : decode cJ8_getChar 22 = .ok (.ldc 54, 2) := dk_18 54 (dk_at dksJ8_getChar_0 22 rfl rfl)
theorem dJ8_getChar_24 : decode cJ8_getChar 24 = .ok (.invokespecial 56, 3) := dk_183 0 56 (dk_at dksJ8_getChar_1 0 rfl rfl)
theorem dJ8_getChar_27 : decode cJ8_getChar 27 = .ok (.athrow, 1) := dk_191 (dk_at dksJ8_getChar_1 3 rfl rfl)
theorem dJ8_getChar_28 : decode cJ8_getChar 28 = .ok (.iload_n 1, 1) := dk_27 (dk_at dksJ8_getChar_1 4 rfl rfl)
theorem dJ8_getChar_29 : decode cJ8_getChar 29 = .ok (.iconst 1, 1) := dk_4 (dk_at dksJ8_getChar_1 5 rfl rfl)
theorem dJ8_getChar_30 : decode cJ8_getChar 30 = .ok (.ishl, 1) := dk_120 (dk_at dksJ8_getChar_1 6 rfl rfl)
theorem dJ8_getChar_31 : decode cJ8_getChar 31 = .ok (.istore_n 1, 1) := dk_60 (dk_at dksJ8_getChar_1 7 rfl rfl)
theorem dJ8_getChar_32 : decode cJ8_getChar 32 = .ok (.aload_n 0, 1) := dk_42 (dk_at dksJ8_getChar_1 8 rfl rfl)
theorem dJ8_getChar_33 : decode cJ8_getChar 33 = .ok (.iload_n 1, 1) := dk_27 (dk_at dksJ8_getChar_1 9 rfl rfl)
theorem dJ8_getChar_34 : decode cJ8_getChar 34 = .ok (.iinc 1 1, 3) := dk_132 1 1 (dk_at dksJ8_getChar_1 10 rfl rfl)
theorem dJ8_getChar_37 : decode cJ8_getChar 37 = .ok (.baload, 1) := dk_51 (dk_at dksJ8_getChar_1 13 rfl rfl)
theorem dJ8_getChar_38 : decode cJ8_getChar 38 = .ok (.sipush 255, 3) := dk_17 0 255 (dk_at dksJ8_getChar_1 14 rfl rfl)
theorem dJ8_getChar_41 : decode cJ8_getChar 41 = .ok (.iand, 1) := dk_126 (dk_at dksJ8_getChar_1 17 rfl rfl)
theorem dJ8_getChar_42 : decode cJ8_getChar 42 = .ok (.getstatic 59, 3) := dk_178 0 59 (dk_at dksJ8_getChar_1 18 rfl rfl)
theorem dJ8_getChar_45 : decode cJ8_getChar 45 = .ok (.ishl, 1) := dk_120 (dk_at dksJ8_getChar_1 21 rfl rfl)
theorem dJ8_getChar_46 : decode cJ8_getChar 46 = .ok (.aload_n 0, 1) := dk_42 (dk_at dksJ8_getChar_1 22 rfl rfl)
theorem dJ8_getChar_47 : decode cJ8_getChar 47 = .ok (.iload_n 1, 1) := dk_27 (dk_at dksJ8_getChar_1 23 rfl rfl)
theorem dJ8_getChar_48 : decode cJ8_getChar 48 = .ok (.baload, 1) := dk_51 (dk_at dksJ8_getChar_2 0 rfl rfl)
theorem dJ8_getChar_49 : decode cJ8_getChar 49 = .ok (.sipush 255, 3) := dk_17 0 255 (dk_at dksJ8_getChar_2 1 rfl rfl)
theorem dJ8_getChar_52 : decode cJ8_getChar 52 = .ok (.iand, 1) := dk_126 (dk_at dksJ8_getChar_2 4 rfl rfl)
theorem dJ8_getChar_53 : decode cJ8_getChar 53 = .ok (.getstatic 63, 3) := dk_178 0 63 (dk_at dksJ8_getChar_2 5 rfl rfl)
theorem dJ8_getChar_56 : decode cJ8_getChar 56 = .ok (.ishl, 1) := dk_120 (dk_at dksJ8_getChar_2 8 rfl rfl)
theorem dJ8_getChar_57 : decode cJ8_getChar 57 = .ok (.ior, 1) := dk_128 (dk_at dksJ8_getChar_2 9 rfl rfl)
theorem dJ8_getChar_58 : decode cJ8_getChar 58 = .ok (.i2c, 1) := dk_146 (dk_at dksJ8_getChar_2 10 rfl rfl)
theorem dJ8_getChar_59 : decode cJ8_getChar 59 = .ok (.ireturn, 1) := dk_172 (dk_at dksJ8_getChar_2 11 rfl rfl)
theorem q92 : (Jvm.Cond.initialized "java/lang/StringUTF16") ∈ lw_all := lw_g (lw_at lw_m1 21 rfl) rfl
theorem q1003 : (Jvm.Cond.static ({ cls := "java/lang/StringUTF16", name := "charAt", desc := "([BI)C" } : Jvm.MethodName)) ∈ lw_all := lw_g (lw_at lw_m4 212 rfl) rfl
theorem q1004 : (Jvm.Cond.code ({ cls := "java/lang/StringUTF16", name := "charAt", desc := "([BI)C" } : Jvm.MethodName) prog_34_method_83_code (2 : Nat) (Option.some Jvm.ClassFile.FieldType.char)) ∈ lw_all := lw_g (lw_at lw_m4 213 rfl) rfl
theorem q1005 : (Jvm.Cond.methodLink "java/lang/StringUTF16" (67 : Nat) ({ cls := "java/lang/StringUTF16", name := "checkIndex", desc := "(I[B)V" } : Jvm.MethodName)) ∈ lw_all := lw_g (lw_at lw_m4 214 rfl) rfl
theorem q1006 : (Jvm.Cond.static ({ cls := "java/lang/StringUTF16", name := "checkIndex", desc := "(I[B)V" } : Jvm.MethodName)) ∈ lw_all := lw_g (lw_at lw_m4 215 rfl) rfl
theorem q1007 : (Jvm.Cond.code ({ cls := "java/lang/StringUTF16", name := "checkIndex", desc := "(I[B)V" } : Jvm.MethodName) prog_34_method_91_code (2 : Nat) (Option.none : Option Jvm.ClassFile.FieldType)) ∈ lw_all := lw_g (lw_at lw_m4 216 rfl) rfl
theorem q1008 : (Jvm.Cond.methodLink "java/lang/StringUTF16" (48 : Nat) ({ cls := "java/lang/StringUTF16", name := "length", desc := "([B)I" } : Jvm.MethodName)) ∈ lw_all := lw_g (lw_at lw_m4 217 rfl) rfl
theorem q1009 : (Jvm.Cond.static ({ cls := "java/lang/StringUTF16", name := "length", desc := "([B)I" } : Jvm.MethodName)) ∈ lw_all := lw_g (lw_at lw_m4 218 rfl) rfl
theorem q1010 : (Jvm.Cond.code ({ cls := "java/lang/StringUTF16", name := "length", desc := "([B)I" } : Jvm.MethodName) prog_34_method_6_code (1 : Nat) (Option.some Jvm.ClassFile.FieldType.int)) ∈ lw_all := lw_g (lw_at lw_m4 219 rfl) rfl
theorem q1011 : (Jvm.Cond.methodLink "java/lang/StringUTF16" (414 : Nat) ({ cls := "java/lang/String", name := "checkIndex", desc := "(II)V" } : Jvm.MethodName)) ∈ lw_all := lw_g (lw_at lw_m4 220 rfl) rfl
theorem q1012 : (Jvm.Cond.methodLink "java/lang/StringUTF16" (71 : Nat) ({ cls := "java/lang/StringUTF16", name := "getChar", desc := "([BI)C" } : Jvm.MethodName)) ∈ lw_all := lw_g (lw_at lw_m4 221 rfl) rfl
theorem q1013 : (Jvm.Cond.static ({ cls := "java/lang/StringUTF16", name := "getChar", desc := "([BI)C" } : Jvm.MethodName)) ∈ lw_all := lw_g (lw_at lw_m4 222 rfl) rfl
theorem q1014 : (Jvm.Cond.code ({ cls := "java/lang/StringUTF16", name := "getChar", desc := "([BI)C" } : Jvm.MethodName) prog_34_method_5_code (2 : Nat) (Option.some Jvm.ClassFile.FieldType.char)) ∈ lw_all := lw_g (lw_at lw_m4 223 rfl) rfl
theorem q1015 : (Jvm.Cond.fieldLink "java/lang/StringUTF16" (44 : Nat) "java/lang/StringUTF16" "$assertionsDisabled" "Z") ∈ lw_all := lw_g (lw_at lw_m4 224 rfl) rfl
theorem q1016 : (Jvm.Cond.laysStatic "java/lang/StringUTF16" "$assertionsDisabled" "Z") ∈ lw_tbl := lw_at lw_m4 225 rfl
theorem q1017 : (Jvm.Cond.fieldLink "java/lang/StringUTF16" (59 : Nat) "java/lang/StringUTF16" "HI_BYTE_SHIFT" "I") ∈ lw_all := lw_g (lw_at lw_m4 226 rfl) rfl
theorem q1018 : (Jvm.Cond.laysStatic "java/lang/StringUTF16" "HI_BYTE_SHIFT" "I") ∈ lw_tbl := lw_at lw_m4 227 rfl
theorem q1019 : (Jvm.Cond.fieldLink "java/lang/StringUTF16" (63 : Nat) "java/lang/StringUTF16" "LO_BYTE_SHIFT" "I") ∈ lw_all := lw_g (lw_at lw_m4 228 rfl) rfl
theorem q1020 : (Jvm.Cond.laysStatic "java/lang/StringUTF16" "LO_BYTE_SHIFT" "I") ∈ lw_tbl := lw_at lw_m4 229 rfl
/-! java/lang/NegativeArraySizeException -/
set_option maxRecDepth 100000
def RJ9 : String := "java/lang/NegativeArraySizeException"
def TJ9 : u_T := fun k => match k with
  | 0 => ("java/lang/Throwable", "backtrace", "Ljava/lang/Object;", false)
  | 1 => ("java/lang/Throwable", "detailMessage", "Ljava/lang/String;", false)
  | 2 => ("java/lang/Throwable", "cause", "Ljava/lang/Throwable;", false)
  | 3 => ("java/lang/Throwable", "stackTrace", "[Ljava/lang/StackTraceElement;", false)
  | 4 => ("java/lang/Throwable", "depth", "I", false)
  | _ => ("java/lang/Throwable", "suppressedExceptions", "Ljava/util/List;", false)
def tyJ9 : Nat → FieldType := fun k => match k with
  | 0 => .object "java/lang/Object"
  | 1 => .object "java/lang/String"
  | 2 => .object "java/lang/Throwable"
  | 3 => .array (.object "java/lang/StackTraceElement")
  | 4 => .int
  | _ => .object "java/util/List"
abbrev wsJ90 : List Cond := u_ws RJ9 TJ9 6
theorem nmJ9 : ∀ a, a < 6 → ∀ b, b < 6 → a ≠ b → (TJ9 a).2.1 ≠ (TJ9 b).2.1 := by decide +kernel
theorem tyJ9_ok : ∀ k, k < 6 → parseFieldDescriptor (TJ9 k).2.2.1 = some (tyJ9 k) := by decide +kernel
abbrev cJ9_init : ByteArray := prog_29_method_2_code
def yJ9_init : MethodName := ⟨RJ9, "<init>", "(Ljava/lang/String;)V"⟩
def dkwJ9_init_0 : List UInt8 := [42, 43, 183, 0, 7, 177]
abbrev dktJ9_init_0 : List UInt8 := dkwJ9_init_0 ++ []
theorem dksJ9_init_0 : cJ9_init.data.toList.drop 0 = dktJ9_init_0 := by decide +kernel
theorem dJ9_init_0 : decode cJ9_init 0 = .ok (.aload_n 0, 1) := dk_42 (dk_at dksJ9_init_0 0 rfl rfl)
theorem dJ9_init_1 : decode cJ9_init 1 = .ok (.aload_n 1, 1) := dk_43 (dk_at dksJ9_init_0 1 rfl rfl)
theorem dJ9_init_2 : decode cJ9_init 2 = .ok (.invokespecial 7, 3) := dk_183 0 7 (dk_at dksJ9_init_0 2 rfl rfl)
theorem dJ9_init_5 : decode cJ9_init 5 = .ok (.return_, 1) := dk_177 (dk_at dksJ9_init_0 5 rfl rfl)
theorem q98 : (Jvm.Cond.initialized "java/lang/NegativeArraySizeException") ∈ lw_all := lw_g (lw_at lw_m1 27 rfl) rfl
theorem q642 : (Jvm.Cond.selects "java/lang/NegativeArraySizeException" ({ cls := "java/lang/Throwable", name := "fillInStackTrace", desc := "()Ljava/lang/Throwable;" } : Jvm.MethodName) ({ cls := "java/lang/Throwable", name := "fillInStackTrace", desc := "()Ljava/lang/Throwable;" } : Jvm.MethodName)) ∈ lw_all := lw_g (lw_at lw_m3 91 rfl) rfl
theorem q1163 : (Jvm.Cond.instantiable "java/lang/NegativeArraySizeException" (6 : Nat)) ∈ lw_all := lw_g (lw_at lw_m5 132 rfl) rfl
theorem q1164 : (Jvm.Cond.instanceMethod ({ cls := "java/lang/NegativeArraySizeException", name := "<init>", desc := "(Ljava/lang/String;)V" } : Jvm.MethodName)) ∈ lw_all := lw_g (lw_at lw_m5 133 rfl) rfl
theorem q1165 : (Jvm.Cond.code ({ cls := "java/lang/NegativeArraySizeException", name := "<init>", desc := "(Ljava/lang/String;)V" } : Jvm.MethodName) prog_29_method_2_code (2 : Nat) (Option.none : Option Jvm.ClassFile.FieldType)) ∈ lw_all := lw_g (lw_at lw_m5 134 rfl) rfl
theorem q1166 : (Jvm.Cond.methodLink "java/lang/NegativeArraySizeException" (7 : Nat) ({ cls := "java/lang/RuntimeException", name := "<init>", desc := "(Ljava/lang/String;)V" } : Jvm.MethodName)) ∈ lw_all := lw_g (lw_at lw_m5 135 rfl) rfl
theorem q1167 : (Jvm.Cond.lays "java/lang/NegativeArraySizeException" "java/lang/Throwable" "backtrace" "Ljava/lang/Object;") ∈ lw_all := lw_g (lw_at lw_m5 136 rfl) rfl
theorem q1168 : (Jvm.Cond.lays "java/lang/NegativeArraySizeException" "java/lang/Throwable" "detailMessage" "Ljava/lang/String;") ∈ lw_all := lw_g (lw_at lw_m5 137 rfl) rfl
theorem q1169 : (Jvm.Cond.lays "java/lang/NegativeArraySizeException" "java/lang/Throwable" "cause" "Ljava/lang/Throwable;") ∈ lw_all := lw_g (lw_at lw_m5 138 rfl) rfl
theorem q1170 : (Jvm.Cond.lays "java/lang/NegativeArraySizeException" "java/lang/Throwable" "stackTrace" "[Ljava/lang/StackTraceElement;") ∈ lw_all := lw_g (lw_at lw_m5 139 rfl) rfl
theorem q1171 : (Jvm.Cond.lays "java/lang/NegativeArraySizeException" "java/lang/Throwable" "depth" "I") ∈ lw_all := lw_g (lw_at lw_m5 140 rfl) rfl
theorem q1172 : (Jvm.Cond.lays "java/lang/NegativeArraySizeException" "java/lang/Throwable" "suppressedExceptions" "Ljava/util/List;") ∈ lw_all := lw_g (lw_at lw_m5 141 rfl) rfl
theorem q1173 : (Jvm.Cond.superclass "java/lang/NegativeArraySizeException" "java/lang/RuntimeException") ∈ lw_all := lw_g (lw_at lw_m5 142 rfl) rfl
theorem q1174 : (Jvm.Cond.castable "java/lang/NegativeArraySizeException" "java/lang/NegativeArraySizeException") ∈ lw_tbl := lw_at lw_m5 143 rfl
theorem q1175 : (Jvm.Cond.selects "java/lang/NegativeArraySizeException" ({ cls := "java/lang/Throwable", name := "fillInStackTrace", desc := "(I)Ljava/lang/Throwable;" } : Jvm.MethodName) ({ cls := "java/lang/Throwable", name := "fillInStackTrace", desc := "(I)Ljava/lang/Throwable;" } : Jvm.MethodName)) ∈ lw_all := lw_g (lw_at lw_m5 144 rfl) rfl
theorem in_J9 : ∀ w ∈ wsJ90, w ∈ lw_all := lw_in wsJ90 [1167, 1168, 1169, 1170, 1171, 1172] (by decide +kernel) (by decide +kernel)
/-! LevelCellars$Town -/
set_option maxRecDepth 100000
def RX1 : String := "LevelCellars$Town"
def TX1 : u_T := fun k => match k with
  | 0 => ("LevelCellars$Town", "cellarN", "I", false)
  | 1 => ("LevelCellars$Town", "pipeN", "I", false)
  | 2 => ("LevelCellars$Town", "textN", "I", false)
  | 3 => ("LevelCellars$Town", "hour", "I", false)
  | 4 => ("LevelCellars$Town", "thirst", "I", false)
  | 5 => ("LevelCellars$Town", "spilt", "I", false)
  | 6 => ("LevelCellars$Town", "z", "I", false)
  | 7 => ("LevelCellars$Town", "ones", "[I", true)
  | 8 => ("LevelCellars$Town", "others", "[I", true)
  | 9 => ("LevelCellars$Town", "wides", "[I", true)
  | 10 => ("LevelCellars$Town", "isCorked", "[Z", true)
  | 11 => ("LevelCellars$Town", "cellars", "[LLevelCellars$Cellar;", true)
  | 12 => ("LevelCellars$Town", "texts", "[LLevelCellars$Text;", true)
  | _ => ("LevelCellars$Town", "this$0", "LLevelCellars;", true)
def tyX1 : Nat → FieldType := fun k => match k with
  | 0 => .int
  | 1 => .int
  | 2 => .int
  | 3 => .int
  | 4 => .int
  | 5 => .int
  | 6 => .int
  | 7 => .array .int
  | 8 => .array .int
  | 9 => .array .int
  | 10 => .array .boolean
  | 11 => .array (.object "LevelCellars$Cellar")
  | 12 => .array (.object "LevelCellars$Text")
  | _ => .object "LevelCellars"
abbrev wsX10 : List Cond := u_ws RX1 TX1 14
set_option maxRecDepth 100000 in
theorem nmX1 : ∀ a, a < 14 → ∀ b, b < 14 → a ≠ b → (TX1 a).2.1 ≠ (TX1 b).2.1 := by decide +kernel
set_option maxRecDepth 100000 in
theorem tyX1_ok : ∀ k, k < 14 → parseFieldDescriptor (TX1 k).2.2.1 = some (tyX1 k) := by decide +kernel
abbrev cX1_init : ByteArray := prog_16_method_1_code
def yX1_init : MethodName := ⟨RX1, "<init>", "(LLevelCellars;)V"⟩
def dkwX1_init_2 : List UInt8 := [16, 8, 189, 0, 33, 181, 0, 35, 42, 16, 14, 189, 0, 39, 181, 0, 41, 177]
abbrev dktX1_init_2 : List UInt8 := dkwX1_init_2 ++ []
def dkwX1_init_1 : List UInt8 := [16, 13, 188, 10, 181, 0, 23, 42, 16, 13, 188, 10, 181, 0, 26, 42, 16, 13, 188, 4, 181, 0, 29, 42]
abbrev dktX1_init_1 : List UInt8 := dkwX1_init_1 ++ dktX1_init_2
def dkwX1_init_0 : List UInt8 := [42, 43, 181, 0, 3, 42, 183, 0, 9, 42, 4, 181, 0, 15, 42, 16, 13, 188, 10, 181, 0, 19, 42]
abbrev dktX1_init_0 : List UInt8 := dkwX1_init_0 ++ dktX1_init_1
theorem dksX1_init_0 : cX1_init.data.toList.drop 0 = dktX1_init_0 := by decide +kernel
theorem dksX1_init_1 : cX1_init.data.toList.drop 23 = dktX1_init_1 := dk_seg dksX1_init_0 23 rfl rfl
theorem dksX1_init_2 : cX1_init.data.toList.drop 47 = dktX1_init_2 := dk_seg dksX1_init_1 24 rfl rfl
theorem dX1_init_0 : decode cX1_init 0 = .ok (.aload_n 0, 1) := dk_42 (dk_at dksX1_init_0 0 rfl rfl)
theorem dX1_init_1 : decode cX1_init 1 = .ok (.aload_n 1, 1) := dk_43 (dk_at dksX1_init_0 1 rfl rfl)
theorem dX1_init_2 : decode cX1_init 2 = .ok (.putfield 3, 3) := dk_181 0 3 (dk_at dksX1_init_0 2 rfl rfl)
theorem dX1_init_5 : decode cX1_init 5 = .ok (.aload_n 0, 1) := dk_42 (dk_at dksX1_init_0 5 rfl rfl)
theorem dX1_init_6 : decode cX1_init 6 = .ok (.invokespecial 9, 3) := dk_183 0 9 (dk_at dksX1_init_0 6 rfl rfl)
theorem dX1_init_9 : decode cX1_init 9 = .ok (.aload_n 0, 1) := dk_42 (dk_at dksX1_init_0 9 rfl rfl)
theorem dX1_init_10 : decode cX1_init 10 = .ok (.iconst 1, 1) := dk_4 (dk_at dksX1_init_0 10 rfl rfl)
theorem dX1_init_11 : decode cX1_init 11 = .ok (.putfield 15, 3) := dk_181 0 15 (dk_at dksX1_init_0 11 rfl rfl)
theorem dX1_init_14 : decode cX1_init 14 = .ok (.aload_n 0, 1) := dk_42 (dk_at dksX1_init_0 14 rfl rfl)
theorem dX1_init_15 : decode cX1_init 15 = .ok (.bipush 13, 2) := dk_16 13 (dk_at dksX1_init_0 15 rfl rfl)
theorem dX1_init_17 : decode cX1_init 17 = .ok (.newarray .int, 2) := dk_188_10 (dk_at dksX1_init_0 17 rfl rfl)
theorem dX1_init_19 : decode cX1_init 19 = .ok (.putfield 19, 3) := dk_181 0 19 (dk_at dksX1_init_0 19 rfl rfl)
theorem dX1_init_22 : decode cX1_init 22 = .ok (.aload_n 0, 1) := dk_42 (dk_at dksX1_init_0 22 rfl rfl)
theorem dX1_init_23 : decode cX1_init 23 = .ok (.bipush 13, 2) := dk_16 13 (dk_at dksX1_init_1 0 rfl rfl)
theorem dX1_init_25 : decode cX1_init 25 = .ok (.newarray .int, 2) := dk_188_10 (dk_at dksX1_init_1 2 rfl rfl)
theorem dX1_init_27 : decode cX1_init 27 = .ok (.putfield 23, 3) := dk_181 0 23 (dk_at dksX1_init_1 4 rfl rfl)
theorem dX1_init_30 : decode cX1_init 30 = .ok (.aload_n 0, 1) := dk_42 (dk_at dksX1_init_1 7 rfl rfl)
theorem dX1_init_31 : decode cX1_init 31 = .ok (.bipush 13, 2) := dk_16 13 (dk_at dksX1_init_1 8 rfl rfl)
theorem dX1_init_33 : decode cX1_init 33 = .ok (.newarray .int, 2) := dk_188_10 (dk_at dksX1_init_1 10 rfl rfl)
theorem dX1_init_35 : decode cX1_init 35 = .ok (.putfield 26, 3) := dk_181 0 26 (dk_at dksX1_init_1 12 rfl rfl)
theorem dX1_init_38 : decode cX1_init 38 = .ok (.aload_n 0, 1) := dk_42 (dk_at dksX1_init_1 15 rfl rfl)
theorem dX1_init_39 : decode cX1_init 39 = .ok (.bipush 13, 2) := dk_16 13 (dk_at dksX1_init_1 16 rfl rfl)
theorem dX1_init_41 : decode cX1_init 41 = .ok (.newarray .boolean, 2) := dk_188_4 (dk_at dksX1_init_1 18 rfl rfl)
theorem dX1_init_43 : decode cX1_init 43 = .ok (.putfield 29, 3) := dk_181 0 29 (dk_at dksX1_init_1 20 rfl rfl)
theorem dX1_init_46 : decode cX1_init 46 = .ok (.aload_n 0, 1) := dk_42 (dk_at dksX1_init_1 23 rfl rfl)
theorem dX1_init_47 : decode cX1_init 47 = .ok (.bipush 8, 2) := dk_16 8 (dk_at dksX1_init_2 0 rfl rfl)
theorem dX1_init_49 : decode cX1_init 49 = .ok (.anewarray 33, 3) := dk_189 0 33 (dk_at dksX1_init_2 2 rfl rfl)
theorem dX1_init_52 : decode cX1_init 52 = .ok (.putfield 35, 3) := dk_181 0 35 (dk_at dksX1_init_2 5 rfl rfl)
theorem dX1_init_55 : decode cX1_init 55 = .ok (.aload_n 0, 1) := dk_42 (dk_at dksX1_init_2 8 rfl rfl)
theorem dX1_init_56 : decode cX1_init 56 = .ok (.bipush 14, 2) := dk_16 14 (dk_at dksX1_init_2 9 rfl rfl)
theorem dX1_init_58 : decode cX1_init 58 = .ok (.anewarray 39, 3) := dk_189 0 39 (dk_at dksX1_init_2 11 rfl rfl)
theorem dX1_init_61 : decode cX1_init 61 = .ok (.putfield 41, 3) := dk_181 0 41 (dk_at dksX1_init_2 14 rfl rfl)
theorem dX1_init_64 : decode cX1_init 64 = .ok (.return_, 1) := dk_177 (dk_at dksX1_init_2 17 rfl rfl)
abbrev cX1_digs : ByteArray := prog_16_method_7_code
def yX1_digs : MethodName := ⟨RX1, "digs", "(III)V"⟩
def dkwX1_digs_2 : List UInt8 := [181, 0, 45, 177]
abbrev dktX1_digs_2 : List UInt8 := dkwX1_digs_2 ++ []
def dkwX1_digs_1 : List UInt8 := [42, 180, 0, 45, 29, 79, 42, 180, 0, 29, 42, 180, 0, 45, 3, 84, 42, 89, 180, 0, 45, 4, 96]
abbrev dktX1_digs_1 : List UInt8 := dkwX1_digs_1 ++ dktX1_digs_2
def dkwX1_digs_0 : List UInt8 := [42, 180, 0, 19, 42, 180, 0, 45, 27, 79, 42, 180, 0, 23, 42, 180, 0, 45, 28, 79, 42, 180, 0, 26]
abbrev dktX1_digs_0 : List UInt8 := dkwX1_digs_0 ++ dktX1_digs_1
theorem dksX1_digs_0 : cX1_digs.data.toList.drop 0 = dktX1_digs_0 := by decide +kernel
theorem dksX1_digs_1 : cX1_digs.data.toList.drop 24 = dktX1_digs_1 := dk_seg dksX1_digs_0 24 rfl rfl
theorem dksX1_digs_2 : cX1_digs.data.toList.drop 47 = dktX1_digs_2 := dk_seg dksX1_digs_1 23 rfl rfl
theorem dX1_digs_0 : decode cX1_digs 0 = .ok (.aload_n 0, 1) := dk_42 (dk_at dksX1_digs_0 0 rfl rfl)
theorem dX1_digs_1 : decode cX1_digs 1 = .ok (.getfield 19, 3) := dk_180 0 19 (dk_at dksX1_digs_0 1 rfl rfl)
theorem dX1_digs_4 : decode cX1_digs 4 = .ok (.aload_n 0, 1) := dk_42 (dk_at dksX1_digs_0 4 rfl rfl)
theorem dX1_digs_5 : decode cX1_digs 5 = .ok (.getfield 45, 3) := dk_180 0 45 (dk_at dksX1_digs_0 5 rfl rfl)
theorem dX1_digs_8 : decode cX1_digs 8 = .ok (.iload_n 1, 1) := dk_27 (dk_at dksX1_digs_0 8 rfl rfl)
theorem dX1_digs_9 : decode cX1_digs 9 = .ok (.iastore, 1) := dk_79 (dk_at dksX1_digs_0 9 rfl rfl)
theorem dX1_digs_10 : decode cX1_digs 10 = .ok (.aload_n 0, 1) := dk_42 (dk_at dksX1_digs_0 10 rfl rfl)
theorem dX1_digs_11 : decode cX1_digs 11 = .ok (.getfield 23, 3) := dk_180 0 23 (dk_at dksX1_digs_0 11 rfl rfl)
theorem dX1_digs_14 : decode cX1_digs 14 = .ok (.aload_n 0, 1) := dk_42 (dk_at dksX1_digs_0 14 rfl rfl)
theorem dX1_digs_15 : decode cX1_digs 15 = .ok (.getfield 45, 3) := dk_180 0 45 (dk_at dksX1_digs_0 15 rfl rfl)
theorem dX1_digs_18 : decode cX1_digs 18 = .ok (.iload_n 2, 1) := dk_28 (dk_at dksX1_digs_0 18 rfl rfl)
theorem dX1_digs_19 : decode cX1_digs 19 = .ok (.iastore, 1) := dk_79 (dk_at dksX1_digs_0 19 rfl rfl)
theorem dX1_digs_20 : decode cX1_digs 20 = .ok (.aload_n 0, 1) := dk_42 (dk_at dksX1_digs_0 20 rfl rfl)
theorem dX1_digs_21 : decode cX1_digs 21 = .ok (.getfield 26, 3) := dk_180 0 26 (dk_at dksX1_digs_0 21 rfl rfl)
theorem dX1_digs_24 : decode cX1_digs 24 = .ok (.aload_n 0, 1) := dk_42 (dk_at dksX1_digs_1 0 rfl rfl)
theorem dX1_digs_25 : decode cX1_digs 25 = .ok (.getfield 45, 3) := dk_180 0 45 (dk_at dksX1_digs_1 1 rfl rfl)
theorem dX1_digs_28 : decode cX1_digs 28 = .ok (.iload_n 3, 1) := dk_29 (dk_at dksX1_digs_1 4 rfl rfl)
theorem dX1_digs_29 : decode cX1_digs 29 = .ok (.iastore, 1) := dk_79 (dk_at dksX1_digs_1 5 rfl rfl)
theorem dX1_digs_30 : decode cX1_digs 30 = .ok (.aload_n 0, 1) := dk_42 (dk_at dksX1_digs_1 6 rfl rfl)
theorem dX1_digs_31 : decode cX1_digs 31 = .ok (.getfield 29, 3) := dk_180 0 29 (dk_at dksX1_digs_1 7 rfl rfl)
theorem dX1_digs_34 : decode cX1_digs 34 = .ok (.aload_n 0, 1) := dk_42 (dk_at dksX1_digs_1 10 rfl rfl)
theorem dX1_digs_35 : decode cX1_digs 35 = .ok (.getfield 45, 3) := dk_180 0 45 (dk_at dksX1_digs_1 11 rfl rfl)
theorem dX1_digs_38 : decode cX1_digs 38 = .ok (.iconst 0, 1) := dk_3 (dk_at dksX1_digs_1 14 rfl rfl)
theorem dX1_digs_39 : decode cX1_digs 39 = .ok (.bastore, 1) := dk_84 (dk_at dksX1_digs_1 15 rfl rfl)
theorem dX1_digs_40 : decode cX1_digs 40 = .ok (.aload_n 0, 1) := dk_42 (dk_at dksX1_digs_1 16 rfl rfl)
theorem dX1_digs_41 : decode cX1_digs 41 = .ok (.dup, 1) := dk_89 (dk_at dksX1_digs_1 17 rfl rfl)
theorem dX1_digs_42 : decode cX1_digs 42 = .ok (.getfield 45, 3) := dk_180 0 45 (dk_at dksX1_digs_1 18 rfl rfl)
theorem dX1_digs_45 : decode cX1_digs 45 = .ok (.iconst 1, 1) := dk_4 (dk_at dksX1_digs_1 21 rfl rfl)
theorem dX1_digs_46 : decode cX1_digs 46 = .ok (.iadd, 1) := dk_96 (dk_at dksX1_digs_1 22 rfl rfl)
theorem dX1_digs_47 : decode cX1_digs 47 = .ok (.putfield 45, 3) := dk_181 0 45 (dk_at dksX1_digs_2 0 rfl rfl)
theorem dX1_digs_50 : decode cX1_digs 50 = .ok (.return_, 1) := dk_177 (dk_at dksX1_digs_2 3 rfl rfl)
abbrev cX1_runs : ByteArray := prog_16_method_10_code
def yX1_runs : MethodName := ⟨RX1, "runs", "(I)I"⟩
def dkwX1_runs_0 : List UInt8 := [42, 27, 182, 0, 104, 184, 0, 91, 172]
abbrev dktX1_runs_0 : List UInt8 := dkwX1_runs_0 ++ []
theorem dksX1_runs_0 : cX1_runs.data.toList.drop 0 = dktX1_runs_0 := by decide +kernel
theorem dX1_runs_0 : decode cX1_runs 0 = .ok (.aload_n 0, 1) := dk_42 (dk_at dksX1_runs_0 0 rfl rfl)
theorem dX1_runs_1 : decode cX1_runs 1 = .ok (.iload_n 1, 1) := dk_27 (dk_at dksX1_runs_0 1 rfl rfl)
theorem dX1_runs_2 : decode cX1_runs 2 = .ok (.invokevirtual 104, 3) := dk_182 0 104 (dk_at dksX1_runs_0 2 rfl rfl)
theorem dX1_runs_5 : decode cX1_runs 5 = .ok (.invokestatic 91, 3) := dk_184 0 91 (dk_at dksX1_runs_0 5 rfl rfl)
theorem dX1_runs_8 : decode cX1_runs 8 = .ok (.ireturn, 1) := dk_172 (dk_at dksX1_runs_0 8 rfl rfl)
abbrev cX1_flow : ByteArray := prog_16_method_9_code
def yX1_flow : MethodName := ⟨RX1, "flow", "(I)I"⟩
def dkwX1_flow_4 : List UInt8 := [153, 0, 7, 3, 167, 0, 16, 21, 4, 158, 0, 8, 21, 7, 167, 0, 6, 21, 7, 116, 172]
abbrev dktX1_flow_4 : List UInt8 := dkwX1_flow_4 ++ []
def dkwX1_flow_3 : List UInt8 := [46, 21, 4, 184, 0, 91, 104, 5, 108, 184, 0, 97, 182, 0, 101, 54, 7, 42, 180, 0, 29, 27, 51]
abbrev dktX1_flow_3 : List UInt8 := dkwX1_flow_3 ++ dktX1_flow_4
def dkwX1_flow_2 : List UInt8 := [21, 4, 158, 0, 7, 45, 167, 0, 4, 44, 58, 6, 25, 6, 25, 5, 182, 0, 85, 42, 180, 0, 26, 27]
abbrev dktX1_flow_2 : List UInt8 := dkwX1_flow_2 ++ dktX1_flow_3
def dkwX1_flow_1 : List UInt8 := [44, 182, 0, 88, 45, 182, 0, 88, 100, 54, 4, 21, 4, 158, 0, 7, 44, 167, 0, 4, 45, 58, 5]
abbrev dktX1_flow_1 : List UInt8 := dkwX1_flow_1 ++ dktX1_flow_2
def dkwX1_flow_0 : List UInt8 := [42, 180, 0, 35, 42, 180, 0, 19, 27, 46, 50, 77, 42, 180, 0, 35, 42, 180, 0, 23, 27, 46, 50, 78]
abbrev dktX1_flow_0 : List UInt8 := dkwX1_flow_0 ++ dktX1_flow_1
theorem dksX1_flow_0 : cX1_flow.data.toList.drop 0 = dktX1_flow_0 := by decide +kernel
theorem dksX1_flow_1 : cX1_flow.data.toList.drop 24 = dktX1_flow_1 := dk_seg dksX1_flow_0 24 rfl rfl
theorem dksX1_flow_2 : cX1_flow.data.toList.drop 47 = dktX1_flow_2 := dk_seg dksX1_flow_1 23 rfl rfl
theorem dksX1_flow_3 : cX1_flow.data.toList.drop 71 = dktX1_flow_3 := dk_seg dksX1_flow_2 24 rfl rfl
theorem dksX1_flow_4 : cX1_flow.data.toList.drop 94 = dktX1_flow_4 := dk_seg dksX1_flow_3 23 rfl rfl
theorem dX1_flow_0 : decode cX1_flow 0 = .ok (.aload_n 0, 1) := dk_42 (dk_at dksX1_flow_0 0 rfl rfl)
theorem dX1_flow_1 : decode cX1_flow 1 = .ok (.getfield 35, 3) := dk_180 0 35 (dk_at dksX1_flow_0 1 rfl rfl)
theorem dX1_flow_4 : decode cX1_flow 4 = .ok (.aload_n 0, 1) := dk_42 (dk_at dksX1_flow_0 4 rfl rfl)
theorem dX1_flow_5 : decode cX1_flow 5 = .ok (.getfield 19, 3) := dk_180 0 19 (dk_at dksX1_flow_0 5 rfl rfl)
theorem dX1_flow_8 : decode cX1_flow 8 = .ok (.iload_n 1, 1) := dk_27 (dk_at dksX1_flow_0 8 rfl rfl)
theorem dX1_flow_9 : decode cX1_flow 9 = .ok (.iaload, 1) := dk_46 (dk_at dksX1_flow_0 9 rfl rfl)
theorem dX1_flow_10 : decode cX1_flow 10 = .ok (.aaload, 1) := dk_50 (dk_at dksX1_flow_0 10 rfl rfl)
theorem dX1_flow_11 : decode cX1_flow 11 = .ok (.astore_n 2, 1) := dk_77 (dk_at dksX1_flow_0 11 rfl rfl)
theorem dX1_flow_12 : decode cX1_flow 12 = .ok (.aload_n 0, 1) := dk_42 (dk_at dksX1_flow_0 12 rfl rfl)
theorem dX1_flow_13 : decode cX1_flow 13 = .ok (.getfield 35, 3) := dk_180 0 35 (dk_at dksX1_flow_0 13 rfl rfl)
theorem dX1_flow_16 : decode cX1_flow 16 = .ok (.aload_n 0, 1) := dk_42 (dk_at dksX1_flow_0 16 rfl rfl)
theorem dX1_flow_17 : decode cX1_flow 17 = .ok (.getfield 23, 3) := dk_180 0 23 (dk_at dksX1_flow_0 17 rfl rfl)
theorem dX1_flow_20 : decode cX1_flow 20 = .ok (.iload_n 1, 1) := dk_27 (dk_at dksX1_flow_0 20 rfl rfl)
theorem dX1_flow_21 : decode cX1_flow 21 = .ok (.iaload, 1) := dk_46 (dk_at dksX1_flow_0 21 rfl rfl)
theorem dX1_flow_22 : decode cX1_flow 22 = .ok (.aaload, 1) := dk_50 (dk_at dksX1_flow_0 22 rfl rfl)
theorem dX1_flow_23 : decode cX1_flow 23 = .ok (.astore_n 3, 1) := dk_78 (dk_at dksX1_flow_0 23 rfl rfl)
theorem dX1_flow_24 : decode cX1_flow 24 = .ok (.aload_n 2, 1) := dk_44 (dk_at dksX1_flow_1 0 rfl rfl)
theorem dX1_flow_25 : decode cX1_flow 25 = .ok (.invokevirtual 88, 3) := dk_182 0 88 (dk_at dksX1_flow_1 1 rfl rfl)
theorem dX1_flow_28 : decode cX1_flow 28 = .ok (.aload_n 3, 1) := dk_45 (dk_at dksX1_flow_1 4 rfl rfl)
theorem dX1_flow_29 : decode cX1_flow 29 = .ok (.invokevirtual 88, 3) := dk_182 0 88 (dk_at dksX1_flow_1 5 rfl rfl)
theorem dX1_flow_32 : decode cX1_flow 32 = .ok (.isub, 1) := dk_100 (dk_at dksX1_flow_1 8 rfl rfl)
theorem dX1_flow_33 : decode cX1_flow 33 = .ok (.istore 4, 2) := dk_54 4 (dk_at dksX1_flow_1 9 rfl rfl)
theorem dX1_flow_35 : decode cX1_flow 35 = .ok (.iload 4, 2) := dk_21 4 (dk_at dksX1_flow_1 11 rfl rfl)
theorem dX1_flow_37 : decode cX1_flow 37 = .ok (.ifCond .le 7, 3) := dk_158 0 7 (dk_at dksX1_flow_1 13 rfl rfl)
theorem dX1_flow_40 : decode cX1_flow 40 = .ok (.aload_n 2, 1) := dk_44 (dk_at dksX1_flow_1 16 rfl rfl)
theorem dX1_flow_41 : decode cX1_flow 41 = .ok (.goto 4, 3) := dk_167 0 4 (dk_at dksX1_flow_1 17 rfl rfl)
theorem dX1_flow_44 : decode cX1_flow 44 = .ok (.aload_n 3, 1) := dk_45 (dk_at dksX1_flow_1 20 rfl rfl)
theorem dX1_flow_45 : decode cX1_flow 45 = .ok (.astore 5, 2) := dk_58 5 (dk_at dksX1_flow_1 21 rfl rfl)
theorem dX1_flow_47 : decode cX1_flow 47 = .ok (.iload 4, 2) := dk_21 4 (dk_at dksX1_flow_2 0 rfl rfl)
theorem dX1_flow_49 : decode cX1_flow 49 = .ok (.ifCond .le 7, 3) := dk_158 0 7 (dk_at dksX1_flow_2 2 rfl rfl)
theorem dX1_flow_52 : decode cX1_flow 52 = .ok (.aload_n 3, 1) := dk_45 (dk_at dksX1_flow_2 5 rfl rfl)
theorem dX1_flow_53 : decode cX1_flow 53 = .ok (.goto 4, 3) := dk_167 0 4 (dk_at dksX1_flow_2 6 rfl rfl)
theorem dX1_flow_56 : decode cX1_flow 56 = .ok (.aload_n 2, 1) := dk_44 (dk_at dksX1_flow_2 9 rfl rfl)
theorem dX1_flow_57 : decode cX1_flow 57 = .ok (.astore 6, 2) := dk_58 6 (dk_at dksX1_flow_2 10 rfl rfl)
theorem dX1_flow_59 : decode cX1_flow 59 = .ok (.aload 6, 2) := dk_25 6 (dk_at dksX1_flow_2 12 rfl rfl)
theorem dX1_flow_61 : decode cX1_flow 61 = .ok (.aload 5, 2) := dk_25 5 (dk_at dksX1_flow_2 14 rfl rfl)
theorem dX1_flow_63 : decode cX1_flow 63 = .ok (.invokevirtual 85, 3) := dk_182 0 85 (dk_at dksX1_flow_2 16 rfl rfl)
theorem dX1_flow_66 : decode cX1_flow 66 = .ok (.aload_n 0, 1) := dk_42 (dk_at dksX1_flow_2 19 rfl rfl)
theorem dX1_flow_67 : decode cX1_flow 67 = .ok (.getfield 26, 3) := dk_180 0 26 (dk_at dksX1_flow_2 20 rfl rfl)
theorem dX1_flow_70 : decode cX1_flow 70 = .ok (.iload_n 1, 1) := dk_27 (dk_at dksX1_flow_2 23 rfl rfl)
theorem dX1_flow_71 : decode cX1_flow 71 = .ok (.iaload, 1) := dk_46 (dk_at dksX1_flow_3 0 rfl rfl)
theorem dX1_flow_72 : decode cX1_flow 72 = .ok (.iload 4, 2) := dk_21 4 (dk_at dksX1_flow_3 1 rfl rfl)
theorem dX1_flow_74 : decode cX1_flow 74 = .ok (.invokestatic 91, 3) := dk_184 0 91 (dk_at dksX1_flow_3 3 rfl rfl)
theorem dX1_flow_77 : decode cX1_flow 77 = .ok (.imul, 1) := dk_104 (dk_at dksX1_flow_3 6 rfl rfl)
theorem dX1_flow_78 : decode cX1_flow 78 = .ok (.iconst 2, 1) := dk_5 (dk_at dksX1_flow_3 7 rfl rfl)
theorem dX1_flow_79 : decode cX1_flow 79 = .ok (.idiv, 1) := dk_108 (dk_at dksX1_flow_3 8 rfl rfl)
theorem dX1_flow_80 : decode cX1_flow 80 = .ok (.invokestatic 97, 3) := dk_184 0 97 (dk_at dksX1_flow_3 9 rfl rfl)
theorem dX1_flow_83 : decode cX1_flow 83 = .ok (.invokevirtual 101, 3) := dk_182 0 101 (dk_at dksX1_flow_3 12 rfl rfl)
theorem dX1_flow_86 : decode cX1_flow 86 = .ok (.istore 7, 2) := dk_54 7 (dk_at dksX1_flow_3 15 rfl rfl)
theorem dX1_flow_88 : decode cX1_flow 88 = .ok (.aload_n 0, 1) := dk_42 (dk_at dksX1_flow_3 17 rfl rfl)
theorem dX1_flow_89 : decode cX1_flow 89 = .ok (.getfield 29, 3) := dk_180 0 29 (dk_at dksX1_flow_3 18 rfl rfl)
theorem dX1_flow_92 : decode cX1_flow 92 = .ok (.iload_n 1, 1) := dk_27 (dk_at dksX1_flow_3 21 rfl rfl)
theorem dX1_flow_93 : decode cX1_flow 93 = .ok (.baload, 1) := dk_51 (dk_at dksX1_flow_3 22 rfl rfl)
theorem dX1_flow_94 : decode cX1_flow 94 = .ok (.ifCond .eq 7, 3) := dk_153 0 7 (dk_at dksX1_flow_4 0 rfl rfl)
theorem dX1_flow_97 : decode cX1_flow 97 = .ok (.iconst 0, 1) := dk_3 (dk_at dksX1_flow_4 3 rfl rfl)
theorem dX1_flow_98 : decode cX1_flow 98 = .ok (.goto 16, 3) := dk_167 0 16 (dk_at dksX1_flow_4 4 rfl rfl)
theorem dX1_flow_101 : decode cX1_flow 101 = .ok (.iload 4, 2) := dk_21 4 (dk_at dksX1_flow_4 7 rfl rfl)
theorem dX1_flow_103 : decode cX1_flow 103 = .ok (.ifCond .le 8, 3) := dk_158 0 8 (dk_at dksX1_flow_4 9 rfl rfl)
theorem dX1_flow_106 : decode cX1_flow 106 = .ok (.iload 7, 2) := dk_21 7 (dk_at dksX1_flow_4 12 rfl rfl)
theorem dX1_flow_108 : decode cX1_flow 108 = .ok (.goto 6, 3) := dk_167 0 6 (dk_at dksX1_flow_4 14 rfl rfl)
theorem dX1_flow_111 : decode cX1_flow 111 = .ok (.iload 7, 2) := dk_21 7 (dk_at dksX1_flow_4 17 rfl rfl)
theorem dX1_flow_113 : decode cX1_flow 113 = .ok (.ineg, 1) := dk_116 (dk_at dksX1_flow_4 19 rfl rfl)
theorem dX1_flow_114 : decode cX1_flow 114 = .ok (.ireturn, 1) := dk_172 (dk_at dksX1_flow_4 20 rfl rfl)
abbrev cX1_drawn : ByteArray := prog_16_method_3_code
def yX1_drawn : MethodName := ⟨RX1, "drawn", "()I"⟩
def dkwX1_drawn_0 : List UInt8 := [42, 42, 180, 0, 15, 18, 80, 104, 17, 48, 57, 96, 181, 0, 15, 42, 180, 0, 15, 16, 8, 124, 172]
abbrev dktX1_drawn_0 : List UInt8 := dkwX1_drawn_0 ++ []
theorem dksX1_drawn_0 : cX1_drawn.data.toList.drop 0 = dktX1_drawn_0 := by decide +kernel
theorem dX1_drawn_0 : decode cX1_drawn 0 = .ok (.aload_n 0, 1) := dk_42 (dk_at dksX1_drawn_0 0 rfl rfl)
theorem dX1_drawn_1 : decode cX1_drawn 1 = .ok (.aload_n 0, 1) := dk_42 (dk_at dksX1_drawn_0 1 rfl rfl)
theorem dX1_drawn_2 : decode cX1_drawn 2 = .ok (.getfield 15, 3) := dk_180 0 15 (dk_at dksX1_drawn_0 2 rfl rfl)
theorem dX1_drawn_5 : decode cX1_drawn 5 = .ok (.ldc 80, 2) := dk_18 80 (dk_at dksX1_drawn_0 5 rfl rfl)
theorem dX1_drawn_7 : decode cX1_drawn 7 = .ok (.imul, 1) := dk_104 (dk_at dksX1_drawn_0 7 rfl rfl)
theorem dX1_drawn_8 : decode cX1_drawn 8 = .ok (.sipush 12345, 3) := dk_17 48 57 (dk_at dksX1_drawn_0 8 rfl rfl)
theorem dX1_drawn_11 : decode cX1_drawn 11 = .ok (.iadd, 1) := dk_96 (dk_at dksX1_drawn_0 11 rfl rfl)
theorem dX1_drawn_12 : decode cX1_drawn 12 = .ok (.putfield 15, 3) := dk_181 0 15 (dk_at dksX1_drawn_0 12 rfl rfl)
theorem dX1_drawn_15 : decode cX1_drawn 15 = .ok (.aload_n 0, 1) := dk_42 (dk_at dksX1_drawn_0 15 rfl rfl)
theorem dX1_drawn_16 : decode cX1_drawn 16 = .ok (.getfield 15, 3) := dk_180 0 15 (dk_at dksX1_drawn_0 16 rfl rfl)
theorem dX1_drawn_19 : decode cX1_drawn 19 = .ok (.bipush 8, 2) := dk_16 8 (dk_at dksX1_drawn_0 19 rfl rfl)
theorem dX1_drawn_21 : decode cX1_drawn 21 = .ok (.iushr, 1) := dk_124 (dk_at dksX1_drawn_0 21 rfl rfl)
theorem dX1_drawn_22 : decode cX1_drawn 22 = .ok (.ireturn, 1) := dk_172 (dk_at dksX1_drawn_0 22 rfl rfl)
abbrev cX1_goesOn : ByteArray := prog_16_method_15_code
def yX1_goesOn : MethodName := ⟨RX1, "goesOn", "()I"⟩
def dkwX1_goesOn_7 : List UInt8 := [89, 180, 0, 51, 4, 96, 181, 0, 51, 42, 180, 0, 57, 27, 100, 172]
abbrev dktX1_goesOn_7 : List UInt8 := dkwX1_goesOn_7 ++ []
def dkwX1_goesOn_6 : List UInt8 := [182, 0, 136, 42, 180, 0, 66, 112, 50, 77, 42, 44, 8, 44, 182, 0, 85, 184, 0, 97, 182, 0, 116, 42]
abbrev dktX1_goesOn_6 : List UInt8 := dkwX1_goesOn_6 ++ dktX1_goesOn_7
def dkwX1_goesOn_5 : List UInt8 := [16, 100, 112, 42, 180, 0, 54, 162, 0, 38, 42, 180, 0, 66, 158, 0, 31, 42, 180, 0, 35, 42]
abbrev dktX1_goesOn_5 : List UInt8 := dkwX1_goesOn_5 ++ dktX1_goesOn_6
def dkwX1_goesOn_4 : List UInt8 := [45, 182, 0, 85, 7, 108, 4, 96, 184, 0, 97, 182, 0, 127, 132, 2, 1, 167, 255, 207, 42, 182, 0, 136]
abbrev dktX1_goesOn_4 : List UInt8 := dkwX1_goesOn_4 ++ dktX1_goesOn_5
def dkwX1_goesOn_3 : List UInt8 := [42, 180, 0, 35, 28, 50, 78, 45, 182, 0, 130, 45, 180, 0, 133, 164, 0, 23, 42, 45, 45, 182, 0, 85]
abbrev dktX1_goesOn_3 : List UInt8 := dkwX1_goesOn_3 ++ dktX1_goesOn_4
def dkwX1_goesOn_2 : List UInt8 := [28, 50, 182, 0, 124, 182, 0, 127, 132, 2, 1, 167, 255, 226, 3, 61, 28, 42, 180, 0, 66, 162, 0, 47]
abbrev dktX1_goesOn_2 : List UInt8 := dkwX1_goesOn_2 ++ dktX1_goesOn_3
def dkwX1_goesOn_1 : List UInt8 := [167, 255, 240, 3, 61, 28, 42, 180, 0, 66, 162, 0, 28, 42, 42, 180, 0, 35, 28, 50, 42, 180, 0, 35]
abbrev dktX1_goesOn_1 : List UInt8 := dkwX1_goesOn_1 ++ dktX1_goesOn_2
def dkwX1_goesOn_0 : List UInt8 := [42, 180, 0, 57, 60, 3, 61, 28, 42, 180, 0, 45, 162, 0, 14, 42, 28, 182, 0, 120, 132, 2, 1]
abbrev dktX1_goesOn_0 : List UInt8 := dkwX1_goesOn_0 ++ dktX1_goesOn_1
theorem dksX1_goesOn_0 : cX1_goesOn.data.toList.drop 0 = dktX1_goesOn_0 := by decide +kernel
theorem dksX1_goesOn_1 : cX1_goesOn.data.toList.drop 23 = dktX1_goesOn_1 := dk_seg dksX1_goesOn_0 23 rfl rfl
theorem dksX1_goesOn_2 : cX1_goesOn.data.toList.drop 47 = dktX1_goesOn_2 := dk_seg dksX1_goesOn_1 24 rfl rfl
theorem dksX1_goesOn_3 : cX1_goesOn.data.toList.drop 71 = dktX1_goesOn_3 := dk_seg dksX1_goesOn_2 24 rfl rfl
theorem dksX1_goesOn_4 : cX1_goesOn.data.toList.drop 95 = dktX1_goesOn_4 := dk_seg dksX1_goesOn_3 24 rfl rfl
theorem dksX1_goesOn_5 : cX1_goesOn.data.toList.drop 119 = dktX1_goesOn_5 := dk_seg dksX1_goesOn_4 24 rfl rfl
theorem dksX1_goesOn_6 : cX1_goesOn.data.toList.drop 141 = dktX1_goesOn_6 := dk_seg dksX1_goesOn_5 22 rfl rfl
theorem dksX1_goesOn_7 : cX1_goesOn.data.toList.drop 165 = dktX1_goesOn_7 := dk_seg dksX1_goesOn_6 24 rfl rfl
theorem dX1_goesOn_0 : decode cX1_goesOn 0 = .ok (.aload_n 0, 1) := dk_42 (dk_at dksX1_goesOn_0 0 rfl rfl)
theorem dX1_goesOn_1 : decode cX1_goesOn 1 = .ok (.getfield 57, 3) := dk_180 0 57 (dk_at dksX1_goesOn_0 1 rfl rfl)
theorem dX1_goesOn_4 : decode cX1_goesOn 4 = .ok (.istore_n 1, 1) := dk_60 (dk_at dksX1_goesOn_0 4 rfl rfl)
theorem dX1_goesOn_5 : decode cX1_goesOn 5 = .ok (.iconst 0, 1) := dk_3 (dk_at dksX1_goesOn_0 5 rfl rfl)
theorem dX1_goesOn_6 : decode cX1_goesOn 6 = .ok (.istore_n 2, 1) := dk_61 (dk_at dksX1_goesOn_0 6 rfl rfl)
theorem dX1_goesOn_7 : decode cX1_goesOn 7 = .ok (.iload_n 2, 1) := dk_28 (dk_at dksX1_goesOn_0 7 rfl rfl)
theorem dX1_goesOn_8 : decode cX1_goesOn 8 = .ok (.aload_n 0, 1) := dk_42 (dk_at dksX1_goesOn_0 8 rfl rfl)
theorem dX1_goesOn_9 : decode cX1_goesOn 9 = .ok (.getfield 45, 3) := dk_180 0 45 (dk_at dksX1_goesOn_0 9 rfl rfl)
theorem dX1_goesOn_12 : decode cX1_goesOn 12 = .ok (.if_icmp .ge 14, 3) := dk_162 0 14 (dk_at dksX1_goesOn_0 12 rfl rfl)
theorem dX1_goesOn_15 : decode cX1_goesOn 15 = .ok (.aload_n 0, 1) := dk_42 (dk_at dksX1_goesOn_0 15 rfl rfl)
theorem dX1_goesOn_16 : decode cX1_goesOn 16 = .ok (.iload_n 2, 1) := dk_28 (dk_at dksX1_goesOn_0 16 rfl rfl)
theorem dX1_goesOn_17 : decode cX1_goesOn 17 = .ok (.invokevirtual 120, 3) := dk_182 0 120 (dk_at dksX1_goesOn_0 17 rfl rfl)
theorem dX1_goesOn_20 : decode cX1_goesOn 20 = .ok (.iinc 2 1, 3) := dk_132 2 1 (dk_at dksX1_goesOn_0 20 rfl rfl)
theorem dX1_goesOn_23 : decode cX1_goesOn 23 = .ok (.goto (-16), 3) := dk_167 255 240 (dk_at dksX1_goesOn_1 0 rfl rfl)
theorem dX1_goesOn_26 : decode cX1_goesOn 26 = .ok (.iconst 0, 1) := dk_3 (dk_at dksX1_goesOn_1 3 rfl rfl)
theorem dX1_goesOn_27 : decode cX1_goesOn 27 = .ok (.istore_n 2, 1) := dk_61 (dk_at dksX1_goesOn_1 4 rfl rfl)
theorem dX1_goesOn_28 : decode cX1_goesOn 28 = .ok (.iload_n 2, 1) := dk_28 (dk_at dksX1_goesOn_1 5 rfl rfl)
theorem dX1_goesOn_29 : decode cX1_goesOn 29 = .ok (.aload_n 0, 1) := dk_42 (dk_at dksX1_goesOn_1 6 rfl rfl)
theorem dX1_goesOn_30 : decode cX1_goesOn 30 = .ok (.getfield 66, 3) := dk_180 0 66 (dk_at dksX1_goesOn_1 7 rfl rfl)
theorem dX1_goesOn_33 : decode cX1_goesOn 33 = .ok (.if_icmp .ge 28, 3) := dk_162 0 28 (dk_at dksX1_goesOn_1 10 rfl rfl)
theorem dX1_goesOn_36 : decode cX1_goesOn 36 = .ok (.aload_n 0, 1) := dk_42 (dk_at dksX1_goesOn_1 13 rfl rfl)
theorem dX1_goesOn_37 : decode cX1_goesOn 37 = .ok (.aload_n 0, 1) := dk_42 (dk_at dksX1_goesOn_1 14 rfl rfl)
theorem dX1_goesOn_38 : decode cX1_goesOn 38 = .ok (.getfield 35, 3) := dk_180 0 35 (dk_at dksX1_goesOn_1 15 rfl rfl)
theorem dX1_goesOn_41 : decode cX1_goesOn 41 = .ok (.iload_n 2, 1) := dk_28 (dk_at dksX1_goesOn_1 18 rfl rfl)
theorem dX1_goesOn_42 : decode cX1_goesOn 42 = .ok (.aaload, 1) := dk_50 (dk_at dksX1_goesOn_1 19 rfl rfl)
theorem dX1_goesOn_43 : decode cX1_goesOn 43 = .ok (.aload_n 0, 1) := dk_42 (dk_at dksX1_goesOn_1 20 rfl rfl)
theorem dX1_goesOn_44 : decode cX1_goesOn 44 = .ok (.getfield 35, 3) := dk_180 0 35 (dk_at dksX1_goesOn_1 21 rfl rfl)
theorem dX1_goesOn_47 : decode cX1_goesOn 47 = .ok (.iload_n 2, 1) := dk_28 (dk_at dksX1_goesOn_2 0 rfl rfl)
theorem dX1_goesOn_48 : decode cX1_goesOn 48 = .ok (.aaload, 1) := dk_50 (dk_at dksX1_goesOn_2 1 rfl rfl)
theorem dX1_goesOn_49 : decode cX1_goesOn 49 = .ok (.invokevirtual 124, 3) := dk_182 0 124 (dk_at dksX1_goesOn_2 2 rfl rfl)
theorem dX1_goesOn_52 : decode cX1_goesOn 52 = .ok (.invokevirtual 127, 3) := dk_182 0 127 (dk_at dksX1_goesOn_2 5 rfl rfl)
theorem dX1_goesOn_55 : decode cX1_goesOn 55 = .ok (.iinc 2 1, 3) := dk_132 2 1 (dk_at dksX1_goesOn_2 8 rfl rfl)
theorem dX1_goesOn_58 : decode cX1_goesOn 58 = .ok (.goto (-30), 3) := dk_167 255 226 (dk_at dksX1_goesOn_2 11 rfl rfl)
theorem dX1_goesOn_61 : decode cX1_goesOn 61 = .ok (.iconst 0, 1) := dk_3 (dk_at dksX1_goesOn_2 14 rfl rfl)
theorem dX1_goesOn_62 : decode cX1_goesOn 62 = .ok (.istore_n 2, 1) := dk_61 (dk_at dksX1_goesOn_2 15 rfl rfl)
theorem dX1_goesOn_63 : decode cX1_goesOn 63 = .ok (.iload_n 2, 1) := dk_28 (dk_at dksX1_goesOn_2 16 rfl rfl)
theorem dX1_goesOn_64 : decode cX1_goesOn 64 = .ok (.aload_n 0, 1) := dk_42 (dk_at dksX1_goesOn_2 17 rfl rfl)
theorem dX1_goesOn_65 : decode cX1_goesOn 65 = .ok (.getfield 66, 3) := dk_180 0 66 (dk_at dksX1_goesOn_2 18 rfl rfl)
theorem dX1_goesOn_68 : decode cX1_goesOn 68 = .ok (.if_icmp .ge 47, 3) := dk_162 0 47 (dk_at dksX1_goesOn_2 21 rfl rfl)
theorem dX1_goesOn_71 : decode cX1_goesOn 71 = .ok (.aload_n 0, 1) := dk_42 (dk_at dksX1_goesOn_3 0 rfl rfl)
theorem dX1_goesOn_72 : decode cX1_goesOn 72 = .ok (.getfield 35, 3) := dk_180 0 35 (dk_at dksX1_goesOn_3 1 rfl rfl)
theorem dX1_goesOn_75 : decode cX1_goesOn 75 = .ok (.iload_n 2, 1) := dk_28 (dk_at dksX1_goesOn_3 4 rfl rfl)
theorem dX1_goesOn_76 : decode cX1_goesOn 76 = .ok (.aaload, 1) := dk_50 (dk_at dksX1_goesOn_3 5 rfl rfl)
theorem dX1_goesOn_77 : decode cX1_goesOn 77 = .ok (.astore_n 3, 1) := dk_78 (dk_at dksX1_goesOn_3 6 rfl rfl)
theorem dX1_goesOn_78 : decode cX1_goesOn 78 = .ok (.aload_n 3, 1) := dk_45 (dk_at dksX1_goesOn_3 7 rfl rfl)
theorem dX1_goesOn_79 : decode cX1_goesOn 79 = .ok (.invokevirtual 130, 3) := dk_182 0 130 (dk_at dksX1_goesOn_3 8 rfl rfl)
theorem dX1_goesOn_82 : decode cX1_goesOn 82 = .ok (.aload_n 3, 1) := dk_45 (dk_at dksX1_goesOn_3 11 rfl rfl)
theorem dX1_goesOn_83 : decode cX1_goesOn 83 = .ok (.getfield 133, 3) := dk_180 0 133 (dk_at dksX1_goesOn_3 12 rfl rfl)
theorem dX1_goesOn_86 : decode cX1_goesOn 86 = .ok (.if_icmp .le 23, 3) := dk_164 0 23 (dk_at dksX1_goesOn_3 15 rfl rfl)
theorem dX1_goesOn_89 : decode cX1_goesOn 89 = .ok (.aload_n 0, 1) := dk_42 (dk_at dksX1_goesOn_3 18 rfl rfl)
theorem dX1_goesOn_90 : decode cX1_goesOn 90 = .ok (.aload_n 3, 1) := dk_45 (dk_at dksX1_goesOn_3 19 rfl rfl)
theorem dX1_goesOn_91 : decode cX1_goesOn 91 = .ok (.aload_n 3, 1) := dk_45 (dk_at dksX1_goesOn_3 20 rfl rfl)
theorem dX1_goesOn_92 : decode cX1_goesOn 92 = .ok (.invokevirtual 85, 3) := dk_182 0 85 (dk_at dksX1_goesOn_3 21 rfl rfl)
theorem dX1_goesOn_95 : decode cX1_goesOn 95 = .ok (.aload_n 3, 1) := dk_45 (dk_at dksX1_goesOn_4 0 rfl rfl)
theorem dX1_goesOn_96 : decode cX1_goesOn 96 = .ok (.invokevirtual 85, 3) := dk_182 0 85 (dk_at dksX1_goesOn_4 1 rfl rfl)
theorem dX1_goesOn_99 : decode cX1_goesOn 99 = .ok (.iconst 4, 1) := dk_7 (dk_at dksX1_goesOn_4 4 rfl rfl)
theorem dX1_goesOn_100 : decode cX1_goesOn 100 = .ok (.idiv, 1) := dk_108 (dk_at dksX1_goesOn_4 5 rfl rfl)
theorem dX1_goesOn_101 : decode cX1_goesOn 101 = .ok (.iconst 1, 1) := dk_4 (dk_at dksX1_goesOn_4 6 rfl rfl)
theorem dX1_goesOn_102 : decode cX1_goesOn 102 = .ok (.iadd, 1) := dk_96 (dk_at dksX1_goesOn_4 7 rfl rfl)
theorem dX1_goesOn_103 : decode cX1_goesOn 103 = .ok (.invokestatic 97, 3) := dk_184 0 97 (dk_at dksX1_goesOn_4 8 rfl rfl)
theorem dX1_goesOn_106 : decode cX1_goesOn 106 = .ok (.invokevirtual 127, 3) := dk_182 0 127 (dk_at dksX1_goesOn_4 11 rfl rfl)
theorem dX1_goesOn_109 : decode cX1_goesOn 109 = .ok (.iinc 2 1, 3) := dk_132 2 1 (dk_at dksX1_goesOn_4 14 rfl rfl)
theorem dX1_goesOn_112 : decode cX1_goesOn 112 = .ok (.goto (-49), 3) := dk_167 255 207 (dk_at dksX1_goesOn_4 17 rfl rfl)
theorem dX1_goesOn_115 : decode cX1_goesOn 115 = .ok (.aload_n 0, 1) := dk_42 (dk_at dksX1_goesOn_4 20 rfl rfl)
theorem dX1_goesOn_116 : decode cX1_goesOn 116 = .ok (.invokevirtual 136, 3) := dk_182 0 136 (dk_at dksX1_goesOn_4 21 rfl rfl)
theorem dX1_goesOn_119 : decode cX1_goesOn 119 = .ok (.bipush 100, 2) := dk_16 100 (dk_at dksX1_goesOn_5 0 rfl rfl)
theorem dX1_goesOn_121 : decode cX1_goesOn 121 = .ok (.irem, 1) := dk_112 (dk_at dksX1_goesOn_5 2 rfl rfl)
theorem dX1_goesOn_122 : decode cX1_goesOn 122 = .ok (.aload_n 0, 1) := dk_42 (dk_at dksX1_goesOn_5 3 rfl rfl)
theorem dX1_goesOn_123 : decode cX1_goesOn 123 = .ok (.getfield 54, 3) := dk_180 0 54 (dk_at dksX1_goesOn_5 4 rfl rfl)
theorem dX1_goesOn_126 : decode cX1_goesOn 126 = .ok (.if_icmp .ge 38, 3) := dk_162 0 38 (dk_at dksX1_goesOn_5 7 rfl rfl)
theorem dX1_goesOn_129 : decode cX1_goesOn 129 = .ok (.aload_n 0, 1) := dk_42 (dk_at dksX1_goesOn_5 10 rfl rfl)
theorem dX1_goesOn_130 : decode cX1_goesOn 130 = .ok (.getfield 66, 3) := dk_180 0 66 (dk_at dksX1_goesOn_5 11 rfl rfl)
theorem dX1_goesOn_133 : decode cX1_goesOn 133 = .ok (.ifCond .le 31, 3) := dk_158 0 31 (dk_at dksX1_goesOn_5 14 rfl rfl)
theorem dX1_goesOn_136 : decode cX1_goesOn 136 = .ok (.aload_n 0, 1) := dk_42 (dk_at dksX1_goesOn_5 17 rfl rfl)
theorem dX1_goesOn_137 : decode cX1_goesOn 137 = .ok (.getfield 35, 3) := dk_180 0 35 (dk_at dksX1_goesOn_5 18 rfl rfl)
theorem dX1_goesOn_140 : decode cX1_goesOn 140 = .ok (.aload_n 0, 1) := dk_42 (dk_at dksX1_goesOn_5 21 rfl rfl)
theorem dX1_goesOn_141 : decode cX1_goesOn 141 = .ok (.invokevirtual 136, 3) := dk_182 0 136 (dk_at dksX1_goesOn_6 0 rfl rfl)
theorem dX1_goesOn_144 : decode cX1_goesOn 144 = .ok (.aload_n 0, 1) := dk_42 (dk_at dksX1_goesOn_6 3 rfl rfl)
theorem dX1_goesOn_145 : decode cX1_goesOn 145 = .ok (.getfield 66, 3) := dk_180 0 66 (dk_at dksX1_goesOn_6 4 rfl rfl)
theorem dX1_goesOn_148 : decode cX1_goesOn 148 = .ok (.irem, 1) := dk_112 (dk_at dksX1_goesOn_6 7 rfl rfl)
theorem dX1_goesOn_149 : decode cX1_goesOn 149 = .ok (.aaload, 1) := dk_50 (dk_at dksX1_goesOn_6 8 rfl rfl)
theorem dX1_goesOn_150 : decode cX1_goesOn 150 = .ok (.astore_n 2, 1) := dk_77 (dk_at dksX1_goesOn_6 9 rfl rfl)
theorem dX1_goesOn_151 : decode cX1_goesOn 151 = .ok (.aload_n 0, 1) := dk_42 (dk_at dksX1_goesOn_6 10 rfl rfl)
theorem dX1_goesOn_152 : decode cX1_goesOn 152 = .ok (.aload_n 2, 1) := dk_44 (dk_at dksX1_goesOn_6 11 rfl rfl)
theorem dX1_goesOn_153 : decode cX1_goesOn 153 = .ok (.iconst 5, 1) := dk_8 (dk_at dksX1_goesOn_6 12 rfl rfl)
theorem dX1_goesOn_154 : decode cX1_goesOn 154 = .ok (.aload_n 2, 1) := dk_44 (dk_at dksX1_goesOn_6 13 rfl rfl)
theorem dX1_goesOn_155 : decode cX1_goesOn 155 = .ok (.invokevirtual 85, 3) := dk_182 0 85 (dk_at dksX1_goesOn_6 14 rfl rfl)
theorem dX1_goesOn_158 : decode cX1_goesOn 158 = .ok (.invokestatic 97, 3) := dk_184 0 97 (dk_at dksX1_goesOn_6 17 rfl rfl)
theorem dX1_goesOn_161 : decode cX1_goesOn 161 = .ok (.invokevirtual 116, 3) := dk_182 0 116 (dk_at dksX1_goesOn_6 20 rfl rfl)
theorem dX1_goesOn_164 : decode cX1_goesOn 164 = .ok (.aload_n 0, 1) := dk_42 (dk_at dksX1_goesOn_6 23 rfl rfl)
theorem dX1_goesOn_165 : decode cX1_goesOn 165 = .ok (.dup, 1) := dk_89 (dk_at dksX1_goesOn_7 0 rfl rfl)
theorem dX1_goesOn_166 : decode cX1_goesOn 166 = .ok (.getfield 51, 3) := dk_180 0 51 (dk_at dksX1_goesOn_7 1 rfl rfl)
theorem dX1_goesOn_169 : decode cX1_goesOn 169 = .ok (.iconst 1, 1) := dk_4 (dk_at dksX1_goesOn_7 4 rfl rfl)
theorem dX1_goesOn_170 : decode cX1_goesOn 170 = .ok (.iadd, 1) := dk_96 (dk_at dksX1_goesOn_7 5 rfl rfl)
theorem dX1_goesOn_171 : decode cX1_goesOn 171 = .ok (.putfield 51, 3) := dk_181 0 51 (dk_at dksX1_goesOn_7 6 rfl rfl)
theorem dX1_goesOn_174 : decode cX1_goesOn 174 = .ok (.aload_n 0, 1) := dk_42 (dk_at dksX1_goesOn_7 9 rfl rfl)
theorem dX1_goesOn_175 : decode cX1_goesOn 175 = .ok (.getfield 57, 3) := dk_180 0 57 (dk_at dksX1_goesOn_7 10 rfl rfl)
theorem dX1_goesOn_178 : decode cX1_goesOn 178 = .ok (.iload_n 1, 1) := dk_27 (dk_at dksX1_goesOn_7 13 rfl rfl)
theorem dX1_goesOn_179 : decode cX1_goesOn 179 = .ok (.isub, 1) := dk_100 (dk_at dksX1_goesOn_7 14 rfl rfl)
theorem dX1_goesOn_180 : decode cX1_goesOn 180 = .ok (.ireturn, 1) := dk_172 (dk_at dksX1_goesOn_7 15 rfl rfl)
abbrev cX1_runsThrough : ByteArray := prog_16_method_13_code
def yX1_runsThrough : MethodName := ⟨RX1, "runsThrough", "(I)V"⟩
def dkwX1_runsThrough_4 : List UInt8 := [96, 79, 132, 4, 1, 167, 255, 227, 177]
abbrev dktX1_runsThrough_4 : List UInt8 := dkwX1_runsThrough_4 ++ []
def dkwX1_runsThrough_3 : List UInt8 := [21, 4, 6, 162, 0, 29, 45, 180, 0, 113, 21, 4, 92, 46, 42, 180, 0, 3, 180, 0, 110, 21, 4, 46]
abbrev dktX1_runsThrough_3 : List UInt8 := dkwX1_runsThrough_3 ++ dktX1_runsThrough_4
def dkwX1_runsThrough_2 : List UInt8 := [158, 0, 12, 42, 180, 0, 23, 27, 46, 167, 0, 9, 42, 180, 0, 19, 27, 46, 50, 78, 3, 54, 4]
abbrev dktX1_runsThrough_2 : List UInt8 := dkwX1_runsThrough_2 ++ dktX1_runsThrough_3
def dkwX1_runsThrough_1 : List UInt8 := [46, 167, 0, 9, 42, 180, 0, 23, 27, 46, 50, 28, 184, 0, 91, 182, 0, 116, 42, 180, 0, 35, 28]
abbrev dktX1_runsThrough_1 : List UInt8 := dkwX1_runsThrough_1 ++ dktX1_runsThrough_2
def dkwX1_runsThrough_0 : List UInt8 := [42, 27, 182, 0, 104, 61, 28, 153, 0, 95, 42, 42, 180, 0, 35, 28, 158, 0, 12, 42, 180, 0, 19, 27]
abbrev dktX1_runsThrough_0 : List UInt8 := dkwX1_runsThrough_0 ++ dktX1_runsThrough_1
theorem dksX1_runsThrough_0 : cX1_runsThrough.data.toList.drop 0 = dktX1_runsThrough_0 := by decide +kernel
theorem dksX1_runsThrough_1 : cX1_runsThrough.data.toList.drop 24 = dktX1_runsThrough_1 := dk_seg dksX1_runsThrough_0 24 rfl rfl
theorem dksX1_runsThrough_2 : cX1_runsThrough.data.toList.drop 47 = dktX1_runsThrough_2 := dk_seg dksX1_runsThrough_1 23 rfl rfl
theorem dksX1_runsThrough_3 : cX1_runsThrough.data.toList.drop 70 = dktX1_runsThrough_3 := dk_seg dksX1_runsThrough_2 23 rfl rfl
theorem dksX1_runsThrough_4 : cX1_runsThrough.data.toList.drop 94 = dktX1_runsThrough_4 := dk_seg dksX1_runsThrough_3 24 rfl rfl
theorem dX1_runsThrough_0 : decode cX1_runsThrough 0 = .ok (.aload_n 0, 1) := dk_42 (dk_at dksX1_runsThrough_0 0 rfl rfl)
theorem dX1_runsThrough_1 : decode cX1_runsThrough 1 = .ok (.iload_n 1, 1) := dk_27 (dk_at dksX1_runsThrough_0 1 rfl rfl)
theorem dX1_runsThrough_2 : decode cX1_runsThrough 2 = .ok (.invokevirtual 104, 3) := dk_182 0 104 (dk_at dksX1_runsThrough_0 2 rfl rfl)
theorem dX1_runsThrough_5 : decode cX1_runsThrough 5 = .ok (.istore_n 2, 1) := dk_61 (dk_at dksX1_runsThrough_0 5 rfl rfl)
theorem dX1_runsThrough_6 : decode cX1_runsThrough 6 = .ok (.iload_n 2, 1) := dk_28 (dk_at dksX1_runsThrough_0 6 rfl rfl)
theorem dX1_runsThrough_7 : decode cX1_runsThrough 7 = .ok (.ifCond .eq 95, 3) := dk_153 0 95 (dk_at dksX1_runsThrough_0 7 rfl rfl)
theorem dX1_runsThrough_10 : decode cX1_runsThrough 10 = .ok (.aload_n 0, 1) := dk_42 (dk_at dksX1_runsThrough_0 10 rfl rfl)
theorem dX1_runsThrough_11 : decode cX1_runsThrough 11 = .ok (.aload_n 0, 1) := dk_42 (dk_at dksX1_runsThrough_0 11 rfl rfl)
theorem dX1_runsThrough_12 : decode cX1_runsThrough 12 = .ok (.getfield 35, 3) := dk_180 0 35 (dk_at dksX1_runsThrough_0 12 rfl rfl)
theorem dX1_runsThrough_15 : decode cX1_runsThrough 15 = .ok (.iload_n 2, 1) := dk_28 (dk_at dksX1_runsThrough_0 15 rfl rfl)
theorem dX1_runsThrough_16 : decode cX1_runsThrough 16 = .ok (.ifCond .le 12, 3) := dk_158 0 12 (dk_at dksX1_runsThrough_0 16 rfl rfl)
theorem dX1_runsThrough_19 : decode cX1_runsThrough 19 = .ok (.aload_n 0, 1) := dk_42 (dk_at dksX1_runsThrough_0 19 rfl rfl)
theorem dX1_runsThrough_20 : decode cX1_runsThrough 20 = .ok (.getfield 19, 3) := dk_180 0 19 (dk_at dksX1_runsThrough_0 20 rfl rfl)
theorem dX1_runsThrough_23 : decode cX1_runsThrough 23 = .ok (.iload_n 1, 1) := dk_27 (dk_at dksX1_runsThrough_0 23 rfl rfl)
theorem dX1_runsThrough_24 : decode cX1_runsThrough 24 = .ok (.iaload, 1) := dk_46 (dk_at dksX1_runsThrough_1 0 rfl rfl)
theorem dX1_runsThrough_25 : decode cX1_runsThrough 25 = .ok (.goto 9, 3) := dk_167 0 9 (dk_at dksX1_runsThrough_1 1 rfl rfl)
theorem dX1_runsThrough_28 : decode cX1_runsThrough 28 = .ok (.aload_n 0, 1) := dk_42 (dk_at dksX1_runsThrough_1 4 rfl rfl)
theorem dX1_runsThrough_29 : decode cX1_runsThrough 29 = .ok (.getfield 23, 3) := dk_180 0 23 (dk_at dksX1_runsThrough_1 5 rfl rfl)
theorem dX1_runsThrough_32 : decode cX1_runsThrough 32 = .ok (.iload_n 1, 1) := dk_27 (dk_at dksX1_runsThrough_1 8 rfl rfl)
theorem dX1_runsThrough_33 : decode cX1_runsThrough 33 = .ok (.iaload, 1) := dk_46 (dk_at dksX1_runsThrough_1 9 rfl rfl)
theorem dX1_runsThrough_34 : decode cX1_runsThrough 34 = .ok (.aaload, 1) := dk_50 (dk_at dksX1_runsThrough_1 10 rfl rfl)
theorem dX1_runsThrough_35 : decode cX1_runsThrough 35 = .ok (.iload_n 2, 1) := dk_28 (dk_at dksX1_runsThrough_1 11 rfl rfl)
theorem dX1_runsThrough_36 : decode cX1_runsThrough 36 = .ok (.invokestatic 91, 3) := dk_184 0 91 (dk_at dksX1_runsThrough_1 12 rfl rfl)
theorem dX1_runsThrough_39 : decode cX1_runsThrough 39 = .ok (.invokevirtual 116, 3) := dk_182 0 116 (dk_at dksX1_runsThrough_1 15 rfl rfl)
theorem dX1_runsThrough_42 : decode cX1_runsThrough 42 = .ok (.aload_n 0, 1) := dk_42 (dk_at dksX1_runsThrough_1 18 rfl rfl)
theorem dX1_runsThrough_43 : decode cX1_runsThrough 43 = .ok (.getfield 35, 3) := dk_180 0 35 (dk_at dksX1_runsThrough_1 19 rfl rfl)
theorem dX1_runsThrough_46 : decode cX1_runsThrough 46 = .ok (.iload_n 2, 1) := dk_28 (dk_at dksX1_runsThrough_1 22 rfl rfl)
theorem dX1_runsThrough_47 : decode cX1_runsThrough 47 = .ok (.ifCond .le 12, 3) := dk_158 0 12 (dk_at dksX1_runsThrough_2 0 rfl rfl)
theorem dX1_runsThrough_50 : decode cX1_runsThrough 50 = .ok (.aload_n 0, 1) := dk_42 (dk_at dksX1_runsThrough_2 3 rfl rfl)
theorem dX1_runsThrough_51 : decode cX1_runsThrough 51 = .ok (.getfield 23, 3) := dk_180 0 23 (dk_at dksX1_runsThrough_2 4 rfl rfl)
theorem dX1_runsThrough_54 : decode cX1_runsThrough 54 = .ok (.iload_n 1, 1) := dk_27 (dk_at dksX1_runsThrough_2 7 rfl rfl)
theorem dX1_runsThrough_55 : decode cX1_runsThrough 55 = .ok (.iaload, 1) := dk_46 (dk_at dksX1_runsThrough_2 8 rfl rfl)
theorem dX1_runsThrough_56 : decode cX1_runsThrough 56 = .ok (.goto 9, 3) := dk_167 0 9 (dk_at dksX1_runsThrough_2 9 rfl rfl)
theorem dX1_runsThrough_59 : decode cX1_runsThrough 59 = .ok (.aload_n 0, 1) := dk_42 (dk_at dksX1_runsThrough_2 12 rfl rfl)
theorem dX1_runsThrough_60 : decode cX1_runsThrough 60 = .ok (.getfield 19, 3) := dk_180 0 19 (dk_at dksX1_runsThrough_2 13 rfl rfl)
theorem dX1_runsThrough_63 : decode cX1_runsThrough 63 = .ok (.iload_n 1, 1) := dk_27 (dk_at dksX1_runsThrough_2 16 rfl rfl)
theorem dX1_runsThrough_64 : decode cX1_runsThrough 64 = .ok (.iaload, 1) := dk_46 (dk_at dksX1_runsThrough_2 17 rfl rfl)
theorem dX1_runsThrough_65 : decode cX1_runsThrough 65 = .ok (.aaload, 1) := dk_50 (dk_at dksX1_runsThrough_2 18 rfl rfl)
theorem dX1_runsThrough_66 : decode cX1_runsThrough 66 = .ok (.astore_n 3, 1) := dk_78 (dk_at dksX1_runsThrough_2 19 rfl rfl)
theorem dX1_runsThrough_67 : decode cX1_runsThrough 67 = .ok (.iconst 0, 1) := dk_3 (dk_at dksX1_runsThrough_2 20 rfl rfl)
theorem dX1_runsThrough_68 : decode cX1_runsThrough 68 = .ok (.istore 4, 2) := dk_54 4 (dk_at dksX1_runsThrough_2 21 rfl rfl)
theorem dX1_runsThrough_70 : decode cX1_runsThrough 70 = .ok (.iload 4, 2) := dk_21 4 (dk_at dksX1_runsThrough_3 0 rfl rfl)
theorem dX1_runsThrough_72 : decode cX1_runsThrough 72 = .ok (.iconst 3, 1) := dk_6 (dk_at dksX1_runsThrough_3 2 rfl rfl)
theorem dX1_runsThrough_73 : decode cX1_runsThrough 73 = .ok (.if_icmp .ge 29, 3) := dk_162 0 29 (dk_at dksX1_runsThrough_3 3 rfl rfl)
theorem dX1_runsThrough_76 : decode cX1_runsThrough 76 = .ok (.aload_n 3, 1) := dk_45 (dk_at dksX1_runsThrough_3 6 rfl rfl)
theorem dX1_runsThrough_77 : decode cX1_runsThrough 77 = .ok (.getfield 113, 3) := dk_180 0 113 (dk_at dksX1_runsThrough_3 7 rfl rfl)
theorem dX1_runsThrough_80 : decode cX1_runsThrough 80 = .ok (.iload 4, 2) := dk_21 4 (dk_at dksX1_runsThrough_3 10 rfl rfl)
theorem dX1_runsThrough_82 : decode cX1_runsThrough 82 = .ok (.dup2, 1) := dk_92 (dk_at dksX1_runsThrough_3 12 rfl rfl)
theorem dX1_runsThrough_83 : decode cX1_runsThrough 83 = .ok (.iaload, 1) := dk_46 (dk_at dksX1_runsThrough_3 13 rfl rfl)
theorem dX1_runsThrough_84 : decode cX1_runsThrough 84 = .ok (.aload_n 0, 1) := dk_42 (dk_at dksX1_runsThrough_3 14 rfl rfl)
theorem dX1_runsThrough_85 : decode cX1_runsThrough 85 = .ok (.getfield 3, 3) := dk_180 0 3 (dk_at dksX1_runsThrough_3 15 rfl rfl)
theorem dX1_runsThrough_88 : decode cX1_runsThrough 88 = .ok (.getfield 110, 3) := dk_180 0 110 (dk_at dksX1_runsThrough_3 18 rfl rfl)
theorem dX1_runsThrough_91 : decode cX1_runsThrough 91 = .ok (.iload 4, 2) := dk_21 4 (dk_at dksX1_runsThrough_3 21 rfl rfl)
theorem dX1_runsThrough_93 : decode cX1_runsThrough 93 = .ok (.iaload, 1) := dk_46 (dk_at dksX1_runsThrough_3 23 rfl rfl)
theorem dX1_runsThrough_94 : decode cX1_runsThrough 94 = .ok (.iadd, 1) := dk_96 (dk_at dksX1_runsThrough_4 0 rfl rfl)
theorem dX1_runsThrough_95 : decode cX1_runsThrough 95 = .ok (.iastore, 1) := dk_79 (dk_at dksX1_runsThrough_4 1 rfl rfl)
theorem dX1_runsThrough_96 : decode cX1_runsThrough 96 = .ok (.iinc 4 1, 3) := dk_132 4 1 (dk_at dksX1_runsThrough_4 2 rfl rfl)
theorem dX1_runsThrough_99 : decode cX1_runsThrough 99 = .ok (.goto (-29), 3) := dk_167 255 227 (dk_at dksX1_runsThrough_4 5 rfl rfl)
theorem dX1_runsThrough_102 : decode cX1_runsThrough 102 = .ok (.return_, 1) := dk_177 (dk_at dksX1_runsThrough_4 8 rfl rfl)
abbrev cX1_goes : ByteArray := prog_16_method_12_code
def yX1_goes : MethodName := ⟨RX1, "goes", "(LLevelCellars$Cellar;I)V"⟩
def dkwX1_goes_6 : List UInt8 := [132, 5, 1, 167, 255, 180, 177]
abbrev dktX1_goes_6 : List UInt8 := dkwX1_goes_6 ++ []
def dkwX1_goes_5 : List UInt8 := [100, 54, 4, 43, 180, 0, 113, 21, 5, 92, 46, 42, 180, 0, 3, 180, 0, 110, 21, 5, 46, 100, 79]
abbrev dktX1_goes_5 : List UInt8 := dkwX1_goes_5 ++ dktX1_goes_6
def dkwX1_goes_4 : List UInt8 := [184, 0, 97, 54, 6, 42, 180, 0, 3, 180, 0, 110, 21, 5, 92, 46, 21, 6, 96, 79, 21, 4, 21, 6]
abbrev dktX1_goes_4 : List UInt8 := dkwX1_goes_4 ++ dktX1_goes_5
def dkwX1_goes_3 : List UInt8 := [6, 162, 0, 76, 21, 4, 43, 180, 0, 113, 21, 5, 46, 42, 180, 0, 3, 180, 0, 110, 21, 5, 46, 100]
abbrev dktX1_goes_3 : List UInt8 := dkwX1_goes_3 ++ dktX1_goes_4
def dkwX1_goes_2 : List UInt8 := [42, 180, 0, 3, 180, 0, 110, 21, 5, 46, 100, 54, 4, 132, 5, 1, 167, 255, 203, 3, 54, 5, 21, 5]
abbrev dktX1_goes_2 : List UInt8 := dkwX1_goes_2 ++ dktX1_goes_3
def dkwX1_goes_1 : List UInt8 := [21, 5, 29, 154, 0, 7, 3, 167, 0, 14, 43, 180, 0, 113, 21, 5, 46, 28, 104, 29, 108, 79, 21, 4]
abbrev dktX1_goes_1 : List UInt8 := dkwX1_goes_1 ++ dktX1_goes_2
def dkwX1_goes_0 : List UInt8 := [43, 182, 0, 85, 62, 28, 54, 4, 3, 54, 5, 21, 5, 6, 162, 0, 53, 42, 180, 0, 3, 180, 0, 110]
abbrev dktX1_goes_0 : List UInt8 := dkwX1_goes_0 ++ dktX1_goes_1
theorem dksX1_goes_0 : cX1_goes.data.toList.drop 0 = dktX1_goes_0 := by decide +kernel
theorem dksX1_goes_1 : cX1_goes.data.toList.drop 24 = dktX1_goes_1 := dk_seg dksX1_goes_0 24 rfl rfl
theorem dksX1_goes_2 : cX1_goes.data.toList.drop 48 = dktX1_goes_2 := dk_seg dksX1_goes_1 24 rfl rfl
theorem dksX1_goes_3 : cX1_goes.data.toList.drop 72 = dktX1_goes_3 := dk_seg dksX1_goes_2 24 rfl rfl
theorem dksX1_goes_4 : cX1_goes.data.toList.drop 96 = dktX1_goes_4 := dk_seg dksX1_goes_3 24 rfl rfl
theorem dksX1_goes_5 : cX1_goes.data.toList.drop 120 = dktX1_goes_5 := dk_seg dksX1_goes_4 24 rfl rfl
theorem dksX1_goes_6 : cX1_goes.data.toList.drop 143 = dktX1_goes_6 := dk_seg dksX1_goes_5 23 rfl rfl
theorem dX1_goes_0 : decode cX1_goes 0 = .ok (.aload_n 1, 1) := dk_43 (dk_at dksX1_goes_0 0 rfl rfl)
theorem dX1_goes_1 : decode cX1_goes 1 = .ok (.invokevirtual 85, 3) := dk_182 0 85 (dk_at dksX1_goes_0 1 rfl rfl)
theorem dX1_goes_4 : decode cX1_goes 4 = .ok (.istore_n 3, 1) := dk_62 (dk_at dksX1_goes_0 4 rfl rfl)
theorem dX1_goes_5 : decode cX1_goes 5 = .ok (.iload_n 2, 1) := dk_28 (dk_at dksX1_goes_0 5 rfl rfl)
theorem dX1_goes_6 : decode cX1_goes 6 = .ok (.istore 4, 2) := dk_54 4 (dk_at dksX1_goes_0 6 rfl rfl)
theorem dX1_goes_8 : decode cX1_goes 8 = .ok (.iconst 0, 1) := dk_3 (dk_at dksX1_goes_0 8 rfl rfl)
theorem dX1_goes_9 : decode cX1_goes 9 = .ok (.istore 5, 2) := dk_54 5 (dk_at dksX1_goes_0 9 rfl rfl)
theorem dX1_goes_11 : decode cX1_goes 11 = .ok (.iload 5, 2) := dk_21 5 (dk_at dksX1_goes_0 11 rfl rfl)
theorem dX1_goes_13 : decode cX1_goes 13 = .ok (.iconst 3, 1) := dk_6 (dk_at dksX1_goes_0 13 rfl rfl)
theorem dX1_goes_14 : decode cX1_goes 14 = .ok (.if_icmp .ge 53, 3) := dk_162 0 53 (dk_at dksX1_goes_0 14 rfl rfl)
theorem dX1_goes_17 : decode cX1_goes 17 = .ok (.aload_n 0, 1) := dk_42 (dk_at dksX1_goes_0 17 rfl rfl)
theorem dX1_goes_18 : decode cX1_goes 18 = .ok (.getfield 3, 3) := dk_180 0 3 (dk_at dksX1_goes_0 18 rfl rfl)
theorem dX1_goes_21 : decode cX1_goes 21 = .ok (.getfield 110, 3) := dk_180 0 110 (dk_at dksX1_goes_0 21 rfl rfl)
theorem dX1_goes_24 : decode cX1_goes 24 = .ok (.iload 5, 2) := dk_21 5 (dk_at dksX1_goes_1 0 rfl rfl)
theorem dX1_goes_26 : decode cX1_goes 26 = .ok (.iload_n 3, 1) := dk_29 (dk_at dksX1_goes_1 2 rfl rfl)
theorem dX1_goes_27 : decode cX1_goes 27 = .ok (.ifCond .ne 7, 3) := dk_154 0 7 (dk_at dksX1_goes_1 3 rfl rfl)
theorem dX1_goes_30 : decode cX1_goes 30 = .ok (.iconst 0, 1) := dk_3 (dk_at dksX1_goes_1 6 rfl rfl)
theorem dX1_goes_31 : decode cX1_goes 31 = .ok (.goto 14, 3) := dk_167 0 14 (dk_at dksX1_goes_1 7 rfl rfl)
theorem dX1_goes_34 : decode cX1_goes 34 = .ok (.aload_n 1, 1) := dk_43 (dk_at dksX1_goes_1 10 rfl rfl)
theorem dX1_goes_35 : decode cX1_goes 35 = .ok (.getfield 113, 3) := dk_180 0 113 (dk_at dksX1_goes_1 11 rfl rfl)
theorem dX1_goes_38 : decode cX1_goes 38 = .ok (.iload 5, 2) := dk_21 5 (dk_at dksX1_goes_1 14 rfl rfl)
theorem dX1_goes_40 : decode cX1_goes 40 = .ok (.iaload, 1) := dk_46 (dk_at dksX1_goes_1 16 rfl rfl)
theorem dX1_goes_41 : decode cX1_goes 41 = .ok (.iload_n 2, 1) := dk_28 (dk_at dksX1_goes_1 17 rfl rfl)
theorem dX1_goes_42 : decode cX1_goes 42 = .ok (.imul, 1) := dk_104 (dk_at dksX1_goes_1 18 rfl rfl)
theorem dX1_goes_43 : decode cX1_goes 43 = .ok (.iload_n 3, 1) := dk_29 (dk_at dksX1_goes_1 19 rfl rfl)
theorem dX1_goes_44 : decode cX1_goes 44 = .ok (.idiv, 1) := dk_108 (dk_at dksX1_goes_1 20 rfl rfl)
theorem dX1_goes_45 : decode cX1_goes 45 = .ok (.iastore, 1) := dk_79 (dk_at dksX1_goes_1 21 rfl rfl)
theorem dX1_goes_46 : decode cX1_goes 46 = .ok (.iload 4, 2) := dk_21 4 (dk_at dksX1_goes_1 22 rfl rfl)
theorem dX1_goes_48 : decode cX1_goes 48 = .ok (.aload_n 0, 1) := dk_42 (dk_at dksX1_goes_2 0 rfl rfl)
theorem dX1_goes_49 : decode cX1_goes 49 = .ok (.getfield 3, 3) := dk_180 0 3 (dk_at dksX1_goes_2 1 rfl rfl)
theorem dX1_goes_52 : decode cX1_goes 52 = .ok (.getfield 110, 3) := dk_180 0 110 (dk_at dksX1_goes_2 4 rfl rfl)
theorem dX1_goes_55 : decode cX1_goes 55 = .ok (.iload 5, 2) := dk_21 5 (dk_at dksX1_goes_2 7 rfl rfl)
theorem dX1_goes_57 : decode cX1_goes 57 = .ok (.iaload, 1) := dk_46 (dk_at dksX1_goes_2 9 rfl rfl)
theorem dX1_goes_58 : decode cX1_goes 58 = .ok (.isub, 1) := dk_100 (dk_at dksX1_goes_2 10 rfl rfl)
theorem dX1_goes_59 : decode cX1_goes 59 = .ok (.istore 4, 2) := dk_54 4 (dk_at dksX1_goes_2 11 rfl rfl)
theorem dX1_goes_61 : decode cX1_goes 61 = .ok (.iinc 5 1, 3) := dk_132 5 1 (dk_at dksX1_goes_2 13 rfl rfl)
theorem dX1_goes_64 : decode cX1_goes 64 = .ok (.goto (-53), 3) := dk_167 255 203 (dk_at dksX1_goes_2 16 rfl rfl)
theorem dX1_goes_67 : decode cX1_goes 67 = .ok (.iconst 0, 1) := dk_3 (dk_at dksX1_goes_2 19 rfl rfl)
theorem dX1_goes_68 : decode cX1_goes 68 = .ok (.istore 5, 2) := dk_54 5 (dk_at dksX1_goes_2 20 rfl rfl)
theorem dX1_goes_70 : decode cX1_goes 70 = .ok (.iload 5, 2) := dk_21 5 (dk_at dksX1_goes_2 22 rfl rfl)
theorem dX1_goes_72 : decode cX1_goes 72 = .ok (.iconst 3, 1) := dk_6 (dk_at dksX1_goes_3 0 rfl rfl)
theorem dX1_goes_73 : decode cX1_goes 73 = .ok (.if_icmp .ge 76, 3) := dk_162 0 76 (dk_at dksX1_goes_3 1 rfl rfl)
theorem dX1_goes_76 : decode cX1_goes 76 = .ok (.iload 4, 2) := dk_21 4 (dk_at dksX1_goes_3 4 rfl rfl)
theorem dX1_goes_78 : decode cX1_goes 78 = .ok (.aload_n 1, 1) := dk_43 (dk_at dksX1_goes_3 6 rfl rfl)
theorem dX1_goes_79 : decode cX1_goes 79 = .ok (.getfield 113, 3) := dk_180 0 113 (dk_at dksX1_goes_3 7 rfl rfl)
theorem dX1_goes_82 : decode cX1_goes 82 = .ok (.iload 5, 2) := dk_21 5 (dk_at dksX1_goes_3 10 rfl rfl)
theorem dX1_goes_84 : decode cX1_goes 84 = .ok (.iaload, 1) := dk_46 (dk_at dksX1_goes_3 12 rfl rfl)
theorem dX1_goes_85 : decode cX1_goes 85 = .ok (.aload_n 0, 1) := dk_42 (dk_at dksX1_goes_3 13 rfl rfl)
theorem dX1_goes_86 : decode cX1_goes 86 = .ok (.getfield 3, 3) := dk_180 0 3 (dk_at dksX1_goes_3 14 rfl rfl)
theorem dX1_goes_89 : decode cX1_goes 89 = .ok (.getfield 110, 3) := dk_180 0 110 (dk_at dksX1_goes_3 17 rfl rfl)
theorem dX1_goes_92 : decode cX1_goes 92 = .ok (.iload 5, 2) := dk_21 5 (dk_at dksX1_goes_3 20 rfl rfl)
theorem dX1_goes_94 : decode cX1_goes 94 = .ok (.iaload, 1) := dk_46 (dk_at dksX1_goes_3 22 rfl rfl)
theorem dX1_goes_95 : decode cX1_goes 95 = .ok (.isub, 1) := dk_100 (dk_at dksX1_goes_3 23 rfl rfl)
theorem dX1_goes_96 : decode cX1_goes 96 = .ok (.invokestatic 97, 3) := dk_184 0 97 (dk_at dksX1_goes_4 0 rfl rfl)
theorem dX1_goes_99 : decode cX1_goes 99 = .ok (.istore 6, 2) := dk_54 6 (dk_at dksX1_goes_4 3 rfl rfl)
theorem dX1_goes_101 : decode cX1_goes 101 = .ok (.aload_n 0, 1) := dk_42 (dk_at dksX1_goes_4 5 rfl rfl)
theorem dX1_goes_102 : decode cX1_goes 102 = .ok (.getfield 3, 3) := dk_180 0 3 (dk_at dksX1_goes_4 6 rfl rfl)
theorem dX1_goes_105 : decode cX1_goes 105 = .ok (.getfield 110, 3) := dk_180 0 110 (dk_at dksX1_goes_4 9 rfl rfl)
theorem dX1_goes_108 : decode cX1_goes 108 = .ok (.iload 5, 2) := dk_21 5 (dk_at dksX1_goes_4 12 rfl rfl)
theorem dX1_goes_110 : decode cX1_goes 110 = .ok (.dup2, 1) := dk_92 (dk_at dksX1_goes_4 14 rfl rfl)
theorem dX1_goes_111 : decode cX1_goes 111 = .ok (.iaload, 1) := dk_46 (dk_at dksX1_goes_4 15 rfl rfl)
theorem dX1_goes_112 : decode cX1_goes 112 = .ok (.iload 6, 2) := dk_21 6 (dk_at dksX1_goes_4 16 rfl rfl)
theorem dX1_goes_114 : decode cX1_goes 114 = .ok (.iadd, 1) := dk_96 (dk_at dksX1_goes_4 18 rfl rfl)
theorem dX1_goes_115 : decode cX1_goes 115 = .ok (.iastore, 1) := dk_79 (dk_at dksX1_goes_4 19 rfl rfl)
theorem dX1_goes_116 : decode cX1_goes 116 = .ok (.iload 4, 2) := dk_21 4 (dk_at dksX1_goes_4 20 rfl rfl)
theorem dX1_goes_118 : decode cX1_goes 118 = .ok (.iload 6, 2) := dk_21 6 (dk_at dksX1_goes_4 22 rfl rfl)
theorem dX1_goes_120 : decode cX1_goes 120 = .ok (.isub, 1) := dk_100 (dk_at dksX1_goes_5 0 rfl rfl)
theorem dX1_goes_121 : decode cX1_goes 121 = .ok (.istore 4, 2) := dk_54 4 (dk_at dksX1_goes_5 1 rfl rfl)
theorem dX1_goes_123 : decode cX1_goes 123 = .ok (.aload_n 1, 1) := dk_43 (dk_at dksX1_goes_5 3 rfl rfl)
theorem dX1_goes_124 : decode cX1_goes 124 = .ok (.getfield 113, 3) := dk_180 0 113 (dk_at dksX1_goes_5 4 rfl rfl)
theorem dX1_goes_127 : decode cX1_goes 127 = .ok (.iload 5, 2) := dk_21 5 (dk_at dksX1_goes_5 7 rfl rfl)
theorem dX1_goes_129 : decode cX1_goes 129 = .ok (.dup2, 1) := dk_92 (dk_at dksX1_goes_5 9 rfl rfl)
theorem dX1_goes_130 : decode cX1_goes 130 = .ok (.iaload, 1) := dk_46 (dk_at dksX1_goes_5 10 rfl rfl)
theorem dX1_goes_131 : decode cX1_goes 131 = .ok (.aload_n 0, 1) := dk_42 (dk_at dksX1_goes_5 11 rfl rfl)
theorem dX1_goes_132 : decode cX1_goes 132 = .ok (.getfield 3, 3) := dk_180 0 3 (dk_at dksX1_goes_5 12 rfl rfl)
theorem dX1_goes_135 : decode cX1_goes 135 = .ok (.getfield 110, 3) := dk_180 0 110 (dk_at dksX1_goes_5 15 rfl rfl)
theorem dX1_goes_138 : decode cX1_goes 138 = .ok (.iload 5, 2) := dk_21 5 (dk_at dksX1_goes_5 18 rfl rfl)
theorem dX1_goes_140 : decode cX1_goes 140 = .ok (.iaload, 1) := dk_46 (dk_at dksX1_goes_5 20 rfl rfl)
theorem dX1_goes_141 : decode cX1_goes 141 = .ok (.isub, 1) := dk_100 (dk_at dksX1_goes_5 21 rfl rfl)
theorem dX1_goes_142 : decode cX1_goes 142 = .ok (.iastore, 1) := dk_79 (dk_at dksX1_goes_5 22 rfl rfl)
theorem dX1_goes_143 : decode cX1_goes 143 = .ok (.iinc 5 1, 3) := dk_132 5 1 (dk_at dksX1_goes_6 0 rfl rfl)
theorem dX1_goes_146 : decode cX1_goes 146 = .ok (.goto (-76), 3) := dk_167 255 180 (dk_at dksX1_goes_6 3 rfl rfl)
theorem dX1_goes_149 : decode cX1_goes 149 = .ok (.return_, 1) := dk_177 (dk_at dksX1_goes_6 6 rfl rfl)
abbrev cX1_spills : ByteArray := prog_16_method_14_code
def yX1_spills : MethodName := ⟨RX1, "spills", "(LLevelCellars$Cellar;I)V"⟩
def dkwX1_spills_0 : List UInt8 := [42, 43, 28, 182, 0, 116, 42, 89, 180, 0, 57, 28, 96, 181, 0, 57, 177]
abbrev dktX1_spills_0 : List UInt8 := dkwX1_spills_0 ++ []
theorem dksX1_spills_0 : cX1_spills.data.toList.drop 0 = dktX1_spills_0 := by decide +kernel
theorem dX1_spills_0 : decode cX1_spills 0 = .ok (.aload_n 0, 1) := dk_42 (dk_at dksX1_spills_0 0 rfl rfl)
theorem dX1_spills_1 : decode cX1_spills 1 = .ok (.aload_n 1, 1) := dk_43 (dk_at dksX1_spills_0 1 rfl rfl)
theorem dX1_spills_2 : decode cX1_spills 2 = .ok (.iload_n 2, 1) := dk_28 (dk_at dksX1_spills_0 2 rfl rfl)
theorem dX1_spills_3 : decode cX1_spills 3 = .ok (.invokevirtual 116, 3) := dk_182 0 116 (dk_at dksX1_spills_0 3 rfl rfl)
theorem dX1_spills_6 : decode cX1_spills 6 = .ok (.aload_n 0, 1) := dk_42 (dk_at dksX1_spills_0 6 rfl rfl)
theorem dX1_spills_7 : decode cX1_spills 7 = .ok (.dup, 1) := dk_89 (dk_at dksX1_spills_0 7 rfl rfl)
theorem dX1_spills_8 : decode cX1_spills 8 = .ok (.getfield 57, 3) := dk_180 0 57 (dk_at dksX1_spills_0 8 rfl rfl)
theorem dX1_spills_11 : decode cX1_spills 11 = .ok (.iload_n 2, 1) := dk_28 (dk_at dksX1_spills_0 11 rfl rfl)
theorem dX1_spills_12 : decode cX1_spills 12 = .ok (.iadd, 1) := dk_96 (dk_at dksX1_spills_0 12 rfl rfl)
theorem dX1_spills_13 : decode cX1_spills 13 = .ok (.putfield 57, 3) := dk_181 0 57 (dk_at dksX1_spills_0 13 rfl rfl)
theorem dX1_spills_16 : decode cX1_spills 16 = .ok (.return_, 1) := dk_177 (dk_at dksX1_spills_0 16 rfl rfl)
abbrev cX1_all : ByteArray := prog_16_method_5_code
def yX1_all : MethodName := ⟨RX1, "all", "()I"⟩
def dkwX1_all_1 : List UInt8 := [132, 2, 1, 167, 255, 233, 27, 172]
abbrev dktX1_all_1 : List UInt8 := dkwX1_all_1 ++ []
def dkwX1_all_0 : List UInt8 := [3, 60, 3, 61, 28, 42, 180, 0, 66, 162, 0, 21, 27, 42, 180, 0, 35, 28, 50, 182, 0, 85, 96, 60]
abbrev dktX1_all_0 : List UInt8 := dkwX1_all_0 ++ dktX1_all_1
theorem dksX1_all_0 : cX1_all.data.toList.drop 0 = dktX1_all_0 := by decide +kernel
theorem dksX1_all_1 : cX1_all.data.toList.drop 24 = dktX1_all_1 := dk_seg dksX1_all_0 24 rfl rfl
theorem dX1_all_0 : decode cX1_all 0 = .ok (.iconst 0, 1) := dk_3 (dk_at dksX1_all_0 0 rfl rfl)
theorem dX1_all_1 : decode cX1_all 1 = .ok (.istore_n 1, 1) := dk_60 (dk_at dksX1_all_0 1 rfl rfl)
theorem dX1_all_2 : decode cX1_all 2 = .ok (.iconst 0, 1) := dk_3 (dk_at dksX1_all_0 2 rfl rfl)
theorem dX1_all_3 : decode cX1_all 3 = .ok (.istore_n 2, 1) := dk_61 (dk_at dksX1_all_0 3 rfl rfl)
theorem dX1_all_4 : decode cX1_all 4 = .ok (.iload_n 2, 1) := dk_28 (dk_at dksX1_all_0 4 rfl rfl)
theorem dX1_all_5 : decode cX1_all 5 = .ok (.aload_n 0, 1) := dk_42 (dk_at dksX1_all_0 5 rfl rfl)
theorem dX1_all_6 : decode cX1_all 6 = .ok (.getfield 66, 3) := dk_180 0 66 (dk_at dksX1_all_0 6 rfl rfl)
theorem dX1_all_9 : decode cX1_all 9 = .ok (.if_icmp .ge 21, 3) := dk_162 0 21 (dk_at dksX1_all_0 9 rfl rfl)
theorem dX1_all_12 : decode cX1_all 12 = .ok (.iload_n 1, 1) := dk_27 (dk_at dksX1_all_0 12 rfl rfl)
theorem dX1_all_13 : decode cX1_all 13 = .ok (.aload_n 0, 1) := dk_42 (dk_at dksX1_all_0 13 rfl rfl)
theorem dX1_all_14 : decode cX1_all 14 = .ok (.getfield 35, 3) := dk_180 0 35 (dk_at dksX1_all_0 14 rfl rfl)
theorem dX1_all_17 : decode cX1_all 17 = .ok (.iload_n 2, 1) := dk_28 (dk_at dksX1_all_0 17 rfl rfl)
theorem dX1_all_18 : decode cX1_all 18 = .ok (.aaload, 1) := dk_50 (dk_at dksX1_all_0 18 rfl rfl)
theorem dX1_all_19 : decode cX1_all 19 = .ok (.invokevirtual 85, 3) := dk_182 0 85 (dk_at dksX1_all_0 19 rfl rfl)
theorem dX1_all_22 : decode cX1_all 22 = .ok (.iadd, 1) := dk_96 (dk_at dksX1_all_0 22 rfl rfl)
theorem dX1_all_23 : decode cX1_all 23 = .ok (.istore_n 1, 1) := dk_60 (dk_at dksX1_all_0 23 rfl rfl)
theorem dX1_all_24 : decode cX1_all 24 = .ok (.iinc 2 1, 3) := dk_132 2 1 (dk_at dksX1_all_1 0 rfl rfl)
theorem dX1_all_27 : decode cX1_all 27 = .ok (.goto (-23), 3) := dk_167 255 233 (dk_at dksX1_all_1 3 rfl rfl)
theorem dX1_all_30 : decode cX1_all 30 = .ok (.iload_n 1, 1) := dk_27 (dk_at dksX1_all_1 6 rfl rfl)
theorem dX1_all_31 : decode cX1_all 31 = .ok (.ireturn, 1) := dk_172 (dk_at dksX1_all_1 7 rfl rfl)
abbrev cX1_running : ByteArray := prog_16_method_11_code
def yX1_running : MethodName := ⟨RX1, "running", "()I"⟩
def dkwX1_running_1 : List UInt8 := [167, 0, 4, 3, 184, 0, 81, 96, 60, 132, 2, 1, 167, 255, 226, 27, 172]
abbrev dktX1_running_1 : List UInt8 := dkwX1_running_1 ++ []
def dkwX1_running_0 : List UInt8 := [3, 60, 3, 61, 28, 42, 180, 0, 45, 162, 0, 28, 27, 42, 28, 182, 0, 107, 158, 0, 7, 4]
abbrev dktX1_running_0 : List UInt8 := dkwX1_running_0 ++ dktX1_running_1
theorem dksX1_running_0 : cX1_running.data.toList.drop 0 = dktX1_running_0 := by decide +kernel
theorem dksX1_running_1 : cX1_running.data.toList.drop 22 = dktX1_running_1 := dk_seg dksX1_running_0 22 rfl rfl
theorem dX1_running_0 : decode cX1_running 0 = .ok (.iconst 0, 1) := dk_3 (dk_at dksX1_running_0 0 rfl rfl)
theorem dX1_running_1 : decode cX1_running 1 = .ok (.istore_n 1, 1) := dk_60 (dk_at dksX1_running_0 1 rfl rfl)
theorem dX1_running_2 : decode cX1_running 2 = .ok (.iconst 0, 1) := dk_3 (dk_at dksX1_running_0 2 rfl rfl)
theorem dX1_running_3 : decode cX1_running 3 = .ok (.istore_n 2, 1) := dk_61 (dk_at dksX1_running_0 3 rfl rfl)
theorem dX1_running_4 : decode cX1_running 4 = .ok (.iload_n 2, 1) := dk_28 (dk_at dksX1_running_0 4 rfl rfl)
theorem dX1_running_5 : decode cX1_running 5 = .ok (.aload_n 0, 1) := dk_42 (dk_at dksX1_running_0 5 rfl rfl)
theorem dX1_running_6 : decode cX1_running 6 = .ok (.getfield 45, 3) := dk_180 0 45 (dk_at dksX1_running_0 6 rfl rfl)
theorem dX1_running_9 : decode cX1_running 9 = .ok (.if_icmp .ge 28, 3) := dk_162 0 28 (dk_at dksX1_running_0 9 rfl rfl)
theorem dX1_running_12 : decode cX1_running 12 = .ok (.iload_n 1, 1) := dk_27 (dk_at dksX1_running_0 12 rfl rfl)
theorem dX1_running_13 : decode cX1_running 13 = .ok (.aload_n 0, 1) := dk_42 (dk_at dksX1_running_0 13 rfl rfl)
theorem dX1_running_14 : decode cX1_running 14 = .ok (.iload_n 2, 1) := dk_28 (dk_at dksX1_running_0 14 rfl rfl)
theorem dX1_running_15 : decode cX1_running 15 = .ok (.invokevirtual 107, 3) := dk_182 0 107 (dk_at dksX1_running_0 15 rfl rfl)
theorem dX1_running_18 : decode cX1_running 18 = .ok (.ifCond .le 7, 3) := dk_158 0 7 (dk_at dksX1_running_0 18 rfl rfl)
theorem dX1_running_21 : decode cX1_running 21 = .ok (.iconst 1, 1) := dk_4 (dk_at dksX1_running_0 21 rfl rfl)
theorem dX1_running_22 : decode cX1_running 22 = .ok (.goto 4, 3) := dk_167 0 4 (dk_at dksX1_running_1 0 rfl rfl)
theorem dX1_running_25 : decode cX1_running 25 = .ok (.iconst 0, 1) := dk_3 (dk_at dksX1_running_1 3 rfl rfl)
theorem dX1_running_26 : decode cX1_running 26 = .ok (.invokestatic 81, 3) := dk_184 0 81 (dk_at dksX1_running_1 4 rfl rfl)
theorem dX1_running_29 : decode cX1_running 29 = .ok (.iadd, 1) := dk_96 (dk_at dksX1_running_1 7 rfl rfl)
theorem dX1_running_30 : decode cX1_running 30 = .ok (.istore_n 1, 1) := dk_60 (dk_at dksX1_running_1 8 rfl rfl)
theorem dX1_running_31 : decode cX1_running 31 = .ok (.iinc 2 1, 3) := dk_132 2 1 (dk_at dksX1_running_1 9 rfl rfl)
theorem dX1_running_34 : decode cX1_running 34 = .ok (.goto (-30), 3) := dk_167 255 226 (dk_at dksX1_running_1 12 rfl rfl)
theorem dX1_running_37 : decode cX1_running 37 = .ok (.iload_n 1, 1) := dk_27 (dk_at dksX1_running_1 15 rfl rfl)
theorem dX1_running_38 : decode cX1_running 38 = .ok (.ireturn, 1) := dk_172 (dk_at dksX1_running_1 16 rfl rfl)
abbrev cX1_withWine : ByteArray := prog_16_method_6_code
def yX1_withWine : MethodName := ⟨RX1, "withWine", "()I"⟩
def dkwX1_withWine_1 : List UInt8 := [158, 0, 9, 4, 28, 120, 167, 0, 4, 3, 128, 60, 132, 2, 1, 167, 255, 223, 27, 172]
abbrev dktX1_withWine_1 : List UInt8 := dkwX1_withWine_1 ++ []
def dkwX1_withWine_0 : List UInt8 := [3, 60, 3, 61, 28, 42, 180, 0, 66, 162, 0, 31, 27, 42, 180, 0, 35, 28, 50, 182, 0, 85]
abbrev dktX1_withWine_0 : List UInt8 := dkwX1_withWine_0 ++ dktX1_withWine_1
theorem dksX1_withWine_0 : cX1_withWine.data.toList.drop 0 = dktX1_withWine_0 := by decide +kernel
theorem dksX1_withWine_1 : cX1_withWine.data.toList.drop 22 = dktX1_withWine_1 := dk_seg dksX1_withWine_0 22 rfl rfl
theorem dX1_withWine_0 : decode cX1_withWine 0 = .ok (.iconst 0, 1) := dk_3 (dk_at dksX1_withWine_0 0 rfl rfl)
theorem dX1_withWine_1 : decode cX1_withWine 1 = .ok (.istore_n 1, 1) := dk_60 (dk_at dksX1_withWine_0 1 rfl rfl)
theorem dX1_withWine_2 : decode cX1_withWine 2 = .ok (.iconst 0, 1) := dk_3 (dk_at dksX1_withWine_0 2 rfl rfl)
theorem dX1_withWine_3 : decode cX1_withWine 3 = .ok (.istore_n 2, 1) := dk_61 (dk_at dksX1_withWine_0 3 rfl rfl)
theorem dX1_withWine_4 : decode cX1_withWine 4 = .ok (.iload_n 2, 1) := dk_28 (dk_at dksX1_withWine_0 4 rfl rfl)
theorem dX1_withWine_5 : decode cX1_withWine 5 = .ok (.aload_n 0, 1) := dk_42 (dk_at dksX1_withWine_0 5 rfl rfl)
theorem dX1_withWine_6 : decode cX1_withWine 6 = .ok (.getfield 66, 3) := dk_180 0 66 (dk_at dksX1_withWine_0 6 rfl rfl)
theorem dX1_withWine_9 : decode cX1_withWine 9 = .ok (.if_icmp .ge 31, 3) := dk_162 0 31 (dk_at dksX1_withWine_0 9 rfl rfl)
theorem dX1_withWine_12 : decode cX1_withWine 12 = .ok (.iload_n 1, 1) := dk_27 (dk_at dksX1_withWine_0 12 rfl rfl)
theorem dX1_withWine_13 : decode cX1_withWine 13 = .ok (.aload_n 0, 1) := dk_42 (dk_at dksX1_withWine_0 13 rfl rfl)
theorem dX1_withWine_14 : decode cX1_withWine 14 = .ok (.getfield 35, 3) := dk_180 0 35 (dk_at dksX1_withWine_0 14 rfl rfl)
theorem dX1_withWine_17 : decode cX1_withWine 17 = .ok (.iload_n 2, 1) := dk_28 (dk_at dksX1_withWine_0 17 rfl rfl)
theorem dX1_withWine_18 : decode cX1_withWine 18 = .ok (.aaload, 1) := dk_50 (dk_at dksX1_withWine_0 18 rfl rfl)
theorem dX1_withWine_19 : decode cX1_withWine 19 = .ok (.invokevirtual 85, 3) := dk_182 0 85 (dk_at dksX1_withWine_0 19 rfl rfl)
theorem dX1_withWine_22 : decode cX1_withWine 22 = .ok (.ifCond .le 9, 3) := dk_158 0 9 (dk_at dksX1_withWine_1 0 rfl rfl)
theorem dX1_withWine_25 : decode cX1_withWine 25 = .ok (.iconst 1, 1) := dk_4 (dk_at dksX1_withWine_1 3 rfl rfl)
theorem dX1_withWine_26 : decode cX1_withWine 26 = .ok (.iload_n 2, 1) := dk_28 (dk_at dksX1_withWine_1 4 rfl rfl)
theorem dX1_withWine_27 : decode cX1_withWine 27 = .ok (.ishl, 1) := dk_120 (dk_at dksX1_withWine_1 5 rfl rfl)
theorem dX1_withWine_28 : decode cX1_withWine 28 = .ok (.goto 4, 3) := dk_167 0 4 (dk_at dksX1_withWine_1 6 rfl rfl)
theorem dX1_withWine_31 : decode cX1_withWine 31 = .ok (.iconst 0, 1) := dk_3 (dk_at dksX1_withWine_1 9 rfl rfl)
theorem dX1_withWine_32 : decode cX1_withWine 32 = .ok (.ior, 1) := dk_128 (dk_at dksX1_withWine_1 10 rfl rfl)
theorem dX1_withWine_33 : decode cX1_withWine 33 = .ok (.istore_n 1, 1) := dk_60 (dk_at dksX1_withWine_1 11 rfl rfl)
theorem dX1_withWine_34 : decode cX1_withWine 34 = .ok (.iinc 2 1, 3) := dk_132 2 1 (dk_at dksX1_withWine_1 12 rfl rfl)
theorem dX1_withWine_37 : decode cX1_withWine 37 = .ok (.goto (-33), 3) := dk_167 255 223 (dk_at dksX1_withWine_1 15 rfl rfl)
theorem dX1_withWine_40 : decode cX1_withWine 40 = .ok (.iload_n 1, 1) := dk_27 (dk_at dksX1_withWine_1 18 rfl rfl)
theorem dX1_withWine_41 : decode cX1_withWine 41 = .ok (.ireturn, 1) := dk_172 (dk_at dksX1_withWine_1 19 rfl rfl)
abbrev cX1_become : ByteArray := prog_16_method_2_code
def yX1_become : MethodName := ⟨RX1, "become", "(LLevelCellars$Town;)V"⟩
def dkwX1_become_9 : List UInt8 := [180, 0, 35, 28, 50, 182, 0, 77, 83, 132, 2, 1, 167, 255, 168, 177]
abbrev dktX1_become_9 : List UInt8 := dkwX1_become_9 ++ []
def dkwX1_become_8 : List UInt8 := [180, 0, 35, 28, 50, 43, 180, 0, 35, 28, 50, 182, 0, 73, 167, 0, 16, 42, 180, 0, 3, 43]
abbrev dktX1_become_8 : List UInt8 := dkwX1_become_8 ++ dktX1_become_9
def dkwX1_become_7 : List UInt8 := [182, 0, 69, 160, 0, 7, 4, 167, 0, 4, 3, 62, 42, 180, 0, 35, 28, 29, 153, 0, 21, 42]
abbrev dktX1_become_7 : List UInt8 := dkwX1_become_7 ++ dktX1_become_8
def dkwX1_become_6 : List UInt8 := [180, 0, 35, 28, 50, 198, 0, 28, 42, 180, 0, 35, 28, 50, 182, 0, 69, 43, 180, 0, 35, 28, 50]
abbrev dktX1_become_6 : List UInt8 := dkwX1_become_6 ++ dktX1_become_7
def dkwX1_become_5 : List UInt8 := [16, 14, 184, 0, 60, 42, 43, 180, 0, 66, 181, 0, 66, 3, 61, 28, 42, 180, 0, 66, 162, 0, 86, 42]
abbrev dktX1_become_5 : List UInt8 := dkwX1_become_5 ++ dktX1_become_6
def dkwX1_become_4 : List UInt8 := [180, 0, 29, 3, 42, 180, 0, 29, 3, 16, 13, 184, 0, 60, 43, 180, 0, 41, 3, 42, 180, 0, 41, 3]
abbrev dktX1_become_4 : List UInt8 := dkwX1_become_4 ++ dktX1_become_5
def dkwX1_become_3 : List UInt8 := [3, 16, 13, 184, 0, 60, 43, 180, 0, 26, 3, 42, 180, 0, 26, 3, 16, 13, 184, 0, 60, 43]
abbrev dktX1_become_3 : List UInt8 := dkwX1_become_3 ++ dktX1_become_4
def dkwX1_become_2 : List UInt8 := [43, 180, 0, 19, 3, 42, 180, 0, 19, 3, 16, 13, 184, 0, 60, 43, 180, 0, 23, 3, 42, 180, 0, 23]
abbrev dktX1_become_2 : List UInt8 := dkwX1_become_2 ++ dktX1_become_3
def dkwX1_become_1 : List UInt8 := [42, 43, 180, 0, 54, 181, 0, 54, 42, 43, 180, 0, 57, 181, 0, 57, 42, 43, 180, 0, 15, 181, 0, 15]
abbrev dktX1_become_1 : List UInt8 := dkwX1_become_1 ++ dktX1_become_2
def dkwX1_become_0 : List UInt8 := [42, 43, 180, 0, 45, 181, 0, 45, 42, 43, 180, 0, 48, 181, 0, 48, 42, 43, 180, 0, 51, 181, 0, 51]
abbrev dktX1_become_0 : List UInt8 := dkwX1_become_0 ++ dktX1_become_1
theorem dksX1_become_0 : cX1_become.data.toList.drop 0 = dktX1_become_0 := by decide +kernel
theorem dksX1_become_1 : cX1_become.data.toList.drop 24 = dktX1_become_1 := dk_seg dksX1_become_0 24 rfl rfl
theorem dksX1_become_2 : cX1_become.data.toList.drop 48 = dktX1_become_2 := dk_seg dksX1_become_1 24 rfl rfl
theorem dksX1_become_3 : cX1_become.data.toList.drop 72 = dktX1_become_3 := dk_seg dksX1_become_2 24 rfl rfl
theorem dksX1_become_4 : cX1_become.data.toList.drop 94 = dktX1_become_4 := dk_seg dksX1_become_3 22 rfl rfl
theorem dksX1_become_5 : cX1_become.data.toList.drop 118 = dktX1_become_5 := dk_seg dksX1_become_4 24 rfl rfl
theorem dksX1_become_6 : cX1_become.data.toList.drop 142 = dktX1_become_6 := dk_seg dksX1_become_5 24 rfl rfl
theorem dksX1_become_7 : cX1_become.data.toList.drop 165 = dktX1_become_7 := dk_seg dksX1_become_6 23 rfl rfl
theorem dksX1_become_8 : cX1_become.data.toList.drop 187 = dktX1_become_8 := dk_seg dksX1_become_7 22 rfl rfl
theorem dksX1_become_9 : cX1_become.data.toList.drop 209 = dktX1_become_9 := dk_seg dksX1_become_8 22 rfl rfl
theorem dX1_become_0 : decode cX1_become 0 = .ok (.aload_n 0, 1) := dk_42 (dk_at dksX1_become_0 0 rfl rfl)
theorem dX1_become_1 : decode cX1_become 1 = .ok (.aload_n 1, 1) := dk_43 (dk_at dksX1_become_0 1 rfl rfl)
theorem dX1_become_2 : decode cX1_become 2 = .ok (.getfield 45, 3) := dk_180 0 45 (dk_at dksX1_become_0 2 rfl rfl)
theorem dX1_become_5 : decode cX1_become 5 = .ok (.putfield 45, 3) := dk_181 0 45 (dk_at dksX1_become_0 5 rfl rfl)
theorem dX1_become_8 : decode cX1_become 8 = .ok (.aload_n 0, 1) := dk_42 (dk_at dksX1_become_0 8 rfl rfl)
theorem dX1_become_9 : decode cX1_become 9 = .ok (.aload_n 1, 1) := dk_43 (dk_at dksX1_become_0 9 rfl rfl)
theorem dX1_become_10 : decode cX1_become 10 = .ok (.getfield 48, 3) := dk_180 0 48 (dk_at dksX1_become_0 10 rfl rfl)
theorem dX1_become_13 : decode cX1_become 13 = .ok (.putfield 48, 3) := dk_181 0 48 (dk_at dksX1_become_0 13 rfl rfl)
theorem dX1_become_16 : decode cX1_become 16 = .ok (.aload_n 0, 1) := dk_42 (dk_at dksX1_become_0 16 rfl rfl)
theorem dX1_become_17 : decode cX1_become 17 = .ok (.aload_n 1, 1) := dk_43 (dk_at dksX1_become_0 17 rfl rfl)
theorem dX1_become_18 : decode cX1_become 18 = .ok (.getfield 51, 3) := dk_180 0 51 (dk_at dksX1_become_0 18 rfl rfl)
theorem dX1_become_21 : decode cX1_become 21 = .ok (.putfield 51, 3) := dk_181 0 51 (dk_at dksX1_become_0 21 rfl rfl)
theorem dX1_become_24 : decode cX1_become 24 = .ok (.aload_n 0, 1) := dk_42 (dk_at dksX1_become_1 0 rfl rfl)
theorem dX1_become_25 : decode cX1_become 25 = .ok (.aload_n 1, 1) := dk_43 (dk_at dksX1_become_1 1 rfl rfl)
theorem dX1_become_26 : decode cX1_become 26 = .ok (.getfield 54, 3) := dk_180 0 54 (dk_at dksX1_become_1 2 rfl rfl)
theorem dX1_become_29 : decode cX1_become 29 = .ok (.putfield 54, 3) := dk_181 0 54 (dk_at dksX1_become_1 5 rfl rfl)
theorem dX1_become_32 : decode cX1_become 32 = .ok (.aload_n 0, 1) := dk_42 (dk_at dksX1_become_1 8 rfl rfl)
theorem dX1_become_33 : decode cX1_become 33 = .ok (.aload_n 1, 1) := dk_43 (dk_at dksX1_become_1 9 rfl rfl)
theorem dX1_become_34 : decode cX1_become 34 = .ok (.getfield 57, 3) := dk_180 0 57 (dk_at dksX1_become_1 10 rfl rfl)
theorem dX1_become_37 : decode cX1_become 37 = .ok (.putfield 57, 3) := dk_181 0 57 (dk_at dksX1_become_1 13 rfl rfl)
theorem dX1_become_40 : decode cX1_become 40 = .ok (.aload_n 0, 1) := dk_42 (dk_at dksX1_become_1 16 rfl rfl)
theorem dX1_become_41 : decode cX1_become 41 = .ok (.aload_n 1, 1) := dk_43 (dk_at dksX1_become_1 17 rfl rfl)
theorem dX1_become_42 : decode cX1_become 42 = .ok (.getfield 15, 3) := dk_180 0 15 (dk_at dksX1_become_1 18 rfl rfl)
theorem dX1_become_45 : decode cX1_become 45 = .ok (.putfield 15, 3) := dk_181 0 15 (dk_at dksX1_become_1 21 rfl rfl)
theorem dX1_become_48 : decode cX1_become 48 = .ok (.aload_n 1, 1) := dk_43 (dk_at dksX1_become_2 0 rfl rfl)
theorem dX1_become_49 : decode cX1_become 49 = .ok (.getfield 19, 3) := dk_180 0 19 (dk_at dksX1_become_2 1 rfl rfl)
theorem dX1_become_52 : decode cX1_become 52 = .ok (.iconst 0, 1) := dk_3 (dk_at dksX1_become_2 4 rfl rfl)
theorem dX1_become_53 : decode cX1_become 53 = .ok (.aload_n 0, 1) := dk_42 (dk_at dksX1_become_2 5 rfl rfl)
theorem dX1_become_54 : decode cX1_become 54 = .ok (.getfield 19, 3) := dk_180 0 19 (dk_at dksX1_become_2 6 rfl rfl)
theorem dX1_become_57 : decode cX1_become 57 = .ok (.iconst 0, 1) := dk_3 (dk_at dksX1_become_2 9 rfl rfl)
theorem dX1_become_58 : decode cX1_become 58 = .ok (.bipush 13, 2) := dk_16 13 (dk_at dksX1_become_2 10 rfl rfl)
theorem dX1_become_60 : decode cX1_become 60 = .ok (.invokestatic 60, 3) := dk_184 0 60 (dk_at dksX1_become_2 12 rfl rfl)
theorem dX1_become_63 : decode cX1_become 63 = .ok (.aload_n 1, 1) := dk_43 (dk_at dksX1_become_2 15 rfl rfl)
theorem dX1_become_64 : decode cX1_become 64 = .ok (.getfield 23, 3) := dk_180 0 23 (dk_at dksX1_become_2 16 rfl rfl)
theorem dX1_become_67 : decode cX1_become 67 = .ok (.iconst 0, 1) := dk_3 (dk_at dksX1_become_2 19 rfl rfl)
theorem dX1_become_68 : decode cX1_become 68 = .ok (.aload_n 0, 1) := dk_42 (dk_at dksX1_become_2 20 rfl rfl)
theorem dX1_become_69 : decode cX1_become 69 = .ok (.getfield 23, 3) := dk_180 0 23 (dk_at dksX1_become_2 21 rfl rfl)
theorem dX1_become_72 : decode cX1_become 72 = .ok (.iconst 0, 1) := dk_3 (dk_at dksX1_become_3 0 rfl rfl)
theorem dX1_become_73 : decode cX1_become 73 = .ok (.bipush 13, 2) := dk_16 13 (dk_at dksX1_become_3 1 rfl rfl)
theorem dX1_become_75 : decode cX1_become 75 = .ok (.invokestatic 60, 3) := dk_184 0 60 (dk_at dksX1_become_3 3 rfl rfl)
theorem dX1_become_78 : decode cX1_become 78 = .ok (.aload_n 1, 1) := dk_43 (dk_at dksX1_become_3 6 rfl rfl)
theorem dX1_become_79 : decode cX1_become 79 = .ok (.getfield 26, 3) := dk_180 0 26 (dk_at dksX1_become_3 7 rfl rfl)
theorem dX1_become_82 : decode cX1_become 82 = .ok (.iconst 0, 1) := dk_3 (dk_at dksX1_become_3 10 rfl rfl)
theorem dX1_become_83 : decode cX1_become 83 = .ok (.aload_n 0, 1) := dk_42 (dk_at dksX1_become_3 11 rfl rfl)
theorem dX1_become_84 : decode cX1_become 84 = .ok (.getfield 26, 3) := dk_180 0 26 (dk_at dksX1_become_3 12 rfl rfl)
theorem dX1_become_87 : decode cX1_become 87 = .ok (.iconst 0, 1) := dk_3 (dk_at dksX1_become_3 15 rfl rfl)
theorem dX1_become_88 : decode cX1_become 88 = .ok (.bipush 13, 2) := dk_16 13 (dk_at dksX1_become_3 16 rfl rfl)
theorem dX1_become_90 : decode cX1_become 90 = .ok (.invokestatic 60, 3) := dk_184 0 60 (dk_at dksX1_become_3 18 rfl rfl)
theorem dX1_become_93 : decode cX1_become 93 = .ok (.aload_n 1, 1) := dk_43 (dk_at dksX1_become_3 21 rfl rfl)
theorem dX1_become_94 : decode cX1_become 94 = .ok (.getfield 29, 3) := dk_180 0 29 (dk_at dksX1_become_4 0 rfl rfl)
theorem dX1_become_97 : decode cX1_become 97 = .ok (.iconst 0, 1) := dk_3 (dk_at dksX1_become_4 3 rfl rfl)
theorem dX1_become_98 : decode cX1_become 98 = .ok (.aload_n 0, 1) := dk_42 (dk_at dksX1_become_4 4 rfl rfl)
theorem dX1_become_99 : decode cX1_become 99 = .ok (.getfield 29, 3) := dk_180 0 29 (dk_at dksX1_become_4 5 rfl rfl)
theorem dX1_become_102 : decode cX1_become 102 = .ok (.iconst 0, 1) := dk_3 (dk_at dksX1_become_4 8 rfl rfl)
theorem dX1_become_103 : decode cX1_become 103 = .ok (.bipush 13, 2) := dk_16 13 (dk_at dksX1_become_4 9 rfl rfl)
theorem dX1_become_105 : decode cX1_become 105 = .ok (.invokestatic 60, 3) := dk_184 0 60 (dk_at dksX1_become_4 11 rfl rfl)
theorem dX1_become_108 : decode cX1_become 108 = .ok (.aload_n 1, 1) := dk_43 (dk_at dksX1_become_4 14 rfl rfl)
theorem dX1_become_109 : decode cX1_become 109 = .ok (.getfield 41, 3) := dk_180 0 41 (dk_at dksX1_become_4 15 rfl rfl)
theorem dX1_become_112 : decode cX1_become 112 = .ok (.iconst 0, 1) := dk_3 (dk_at dksX1_become_4 18 rfl rfl)
theorem dX1_become_113 : decode cX1_become 113 = .ok (.aload_n 0, 1) := dk_42 (dk_at dksX1_become_4 19 rfl rfl)
theorem dX1_become_114 : decode cX1_become 114 = .ok (.getfield 41, 3) := dk_180 0 41 (dk_at dksX1_become_4 20 rfl rfl)
theorem dX1_become_117 : decode cX1_become 117 = .ok (.iconst 0, 1) := dk_3 (dk_at dksX1_become_4 23 rfl rfl)
theorem dX1_become_118 : decode cX1_become 118 = .ok (.bipush 14, 2) := dk_16 14 (dk_at dksX1_become_5 0 rfl rfl)
theorem dX1_become_120 : decode cX1_become 120 = .ok (.invokestatic 60, 3) := dk_184 0 60 (dk_at dksX1_become_5 2 rfl rfl)
theorem dX1_become_123 : decode cX1_become 123 = .ok (.aload_n 0, 1) := dk_42 (dk_at dksX1_become_5 5 rfl rfl)
theorem dX1_become_124 : decode cX1_become 124 = .ok (.aload_n 1, 1) := dk_43 (dk_at dksX1_become_5 6 rfl rfl)
theorem dX1_become_125 : decode cX1_become 125 = .ok (.getfield 66, 3) := dk_180 0 66 (dk_at dksX1_become_5 7 rfl rfl)
theorem dX1_become_128 : decode cX1_become 128 = .ok (.putfield 66, 3) := dk_181 0 66 (dk_at dksX1_become_5 10 rfl rfl)
theorem dX1_become_131 : decode cX1_become 131 = .ok (.iconst 0, 1) := dk_3 (dk_at dksX1_become_5 13 rfl rfl)
theorem dX1_become_132 : decode cX1_become 132 = .ok (.istore_n 2, 1) := dk_61 (dk_at dksX1_become_5 14 rfl rfl)
theorem dX1_become_133 : decode cX1_become 133 = .ok (.iload_n 2, 1) := dk_28 (dk_at dksX1_become_5 15 rfl rfl)
theorem dX1_become_134 : decode cX1_become 134 = .ok (.aload_n 0, 1) := dk_42 (dk_at dksX1_become_5 16 rfl rfl)
theorem dX1_become_135 : decode cX1_become 135 = .ok (.getfield 66, 3) := dk_180 0 66 (dk_at dksX1_become_5 17 rfl rfl)
theorem dX1_become_138 : decode cX1_become 138 = .ok (.if_icmp .ge 86, 3) := dk_162 0 86 (dk_at dksX1_become_5 20 rfl rfl)
theorem dX1_become_141 : decode cX1_become 141 = .ok (.aload_n 0, 1) := dk_42 (dk_at dksX1_become_5 23 rfl rfl)
theorem dX1_become_142 : decode cX1_become 142 = .ok (.getfield 35, 3) := dk_180 0 35 (dk_at dksX1_become_6 0 rfl rfl)
theorem dX1_become_145 : decode cX1_become 145 = .ok (.iload_n 2, 1) := dk_28 (dk_at dksX1_become_6 3 rfl rfl)
theorem dX1_become_146 : decode cX1_become 146 = .ok (.aaload, 1) := dk_50 (dk_at dksX1_become_6 4 rfl rfl)
theorem dX1_become_147 : decode cX1_become 147 = .ok (.ifnull 28, 3) := dk_198 0 28 (dk_at dksX1_become_6 5 rfl rfl)
theorem dX1_become_150 : decode cX1_become 150 = .ok (.aload_n 0, 1) := dk_42 (dk_at dksX1_become_6 8 rfl rfl)
theorem dX1_become_151 : decode cX1_become 151 = .ok (.getfield 35, 3) := dk_180 0 35 (dk_at dksX1_become_6 9 rfl rfl)
theorem dX1_become_154 : decode cX1_become 154 = .ok (.iload_n 2, 1) := dk_28 (dk_at dksX1_become_6 12 rfl rfl)
theorem dX1_become_155 : decode cX1_become 155 = .ok (.aaload, 1) := dk_50 (dk_at dksX1_become_6 13 rfl rfl)
theorem dX1_become_156 : decode cX1_become 156 = .ok (.invokevirtual 69, 3) := dk_182 0 69 (dk_at dksX1_become_6 14 rfl rfl)
theorem dX1_become_159 : decode cX1_become 159 = .ok (.aload_n 1, 1) := dk_43 (dk_at dksX1_become_6 17 rfl rfl)
theorem dX1_become_160 : decode cX1_become 160 = .ok (.getfield 35, 3) := dk_180 0 35 (dk_at dksX1_become_6 18 rfl rfl)
theorem dX1_become_163 : decode cX1_become 163 = .ok (.iload_n 2, 1) := dk_28 (dk_at dksX1_become_6 21 rfl rfl)
theorem dX1_become_164 : decode cX1_become 164 = .ok (.aaload, 1) := dk_50 (dk_at dksX1_become_6 22 rfl rfl)
theorem dX1_become_165 : decode cX1_become 165 = .ok (.invokevirtual 69, 3) := dk_182 0 69 (dk_at dksX1_become_7 0 rfl rfl)
theorem dX1_become_168 : decode cX1_become 168 = .ok (.if_icmp .ne 7, 3) := dk_160 0 7 (dk_at dksX1_become_7 3 rfl rfl)
theorem dX1_become_171 : decode cX1_become 171 = .ok (.iconst 1, 1) := dk_4 (dk_at dksX1_become_7 6 rfl rfl)
theorem dX1_become_172 : decode cX1_become 172 = .ok (.goto 4, 3) := dk_167 0 4 (dk_at dksX1_become_7 7 rfl rfl)
theorem dX1_become_175 : decode cX1_become 175 = .ok (.iconst 0, 1) := dk_3 (dk_at dksX1_become_7 10 rfl rfl)
theorem dX1_become_176 : decode cX1_become 176 = .ok (.istore_n 3, 1) := dk_62 (dk_at dksX1_become_7 11 rfl rfl)
theorem dX1_become_177 : decode cX1_become 177 = .ok (.aload_n 0, 1) := dk_42 (dk_at dksX1_become_7 12 rfl rfl)
theorem dX1_become_178 : decode cX1_become 178 = .ok (.getfield 35, 3) := dk_180 0 35 (dk_at dksX1_become_7 13 rfl rfl)
theorem dX1_become_181 : decode cX1_become 181 = .ok (.iload_n 2, 1) := dk_28 (dk_at dksX1_become_7 16 rfl rfl)
theorem dX1_become_182 : decode cX1_become 182 = .ok (.iload_n 3, 1) := dk_29 (dk_at dksX1_become_7 17 rfl rfl)
theorem dX1_become_183 : decode cX1_become 183 = .ok (.ifCond .eq 21, 3) := dk_153 0 21 (dk_at dksX1_become_7 18 rfl rfl)
theorem dX1_become_186 : decode cX1_become 186 = .ok (.aload_n 0, 1) := dk_42 (dk_at dksX1_become_7 21 rfl rfl)
theorem dX1_become_187 : decode cX1_become 187 = .ok (.getfield 35, 3) := dk_180 0 35 (dk_at dksX1_become_8 0 rfl rfl)
theorem dX1_become_190 : decode cX1_become 190 = .ok (.iload_n 2, 1) := dk_28 (dk_at dksX1_become_8 3 rfl rfl)
theorem dX1_become_191 : decode cX1_become 191 = .ok (.aaload, 1) := dk_50 (dk_at dksX1_become_8 4 rfl rfl)
theorem dX1_become_192 : decode cX1_become 192 = .ok (.aload_n 1, 1) := dk_43 (dk_at dksX1_become_8 5 rfl rfl)
theorem dX1_become_193 : decode cX1_become 193 = .ok (.getfield 35, 3) := dk_180 0 35 (dk_at dksX1_become_8 6 rfl rfl)
theorem dX1_become_196 : decode cX1_become 196 = .ok (.iload_n 2, 1) := dk_28 (dk_at dksX1_become_8 9 rfl rfl)
theorem dX1_become_197 : decode cX1_become 197 = .ok (.aaload, 1) := dk_50 (dk_at dksX1_become_8 10 rfl rfl)
theorem dX1_become_198 : decode cX1_become 198 = .ok (.invokevirtual 73, 3) := dk_182 0 73 (dk_at dksX1_become_8 11 rfl rfl)
theorem dX1_become_201 : decode cX1_become 201 = .ok (.goto 16, 3) := dk_167 0 16 (dk_at dksX1_become_8 14 rfl rfl)
theorem dX1_become_204 : decode cX1_become 204 = .ok (.aload_n 0, 1) := dk_42 (dk_at dksX1_become_8 17 rfl rfl)
theorem dX1_become_205 : decode cX1_become 205 = .ok (.getfield 3, 3) := dk_180 0 3 (dk_at dksX1_become_8 18 rfl rfl)
theorem dX1_become_208 : decode cX1_become 208 = .ok (.aload_n 1, 1) := dk_43 (dk_at dksX1_become_8 21 rfl rfl)
theorem dX1_become_209 : decode cX1_become 209 = .ok (.getfield 35, 3) := dk_180 0 35 (dk_at dksX1_become_9 0 rfl rfl)
theorem dX1_become_212 : decode cX1_become 212 = .ok (.iload_n 2, 1) := dk_28 (dk_at dksX1_become_9 3 rfl rfl)
theorem dX1_become_213 : decode cX1_become 213 = .ok (.aaload, 1) := dk_50 (dk_at dksX1_become_9 4 rfl rfl)
theorem dX1_become_214 : decode cX1_become 214 = .ok (.invokevirtual 77, 3) := dk_182 0 77 (dk_at dksX1_become_9 5 rfl rfl)
theorem dX1_become_217 : decode cX1_become 217 = .ok (.aastore, 1) := dk_83 (dk_at dksX1_become_9 8 rfl rfl)
theorem dX1_become_218 : decode cX1_become 218 = .ok (.iinc 2 1, 3) := dk_132 2 1 (dk_at dksX1_become_9 9 rfl rfl)
theorem dX1_become_221 : decode cX1_become 221 = .ok (.goto (-88), 3) := dk_167 255 168 (dk_at dksX1_become_9 12 rfl rfl)
theorem dX1_become_224 : decode cX1_become 224 = .ok (.return_, 1) := dk_177 (dk_at dksX1_become_9 15 rfl rfl)
abbrev cX1_goesOn_2 : ByteArray := prog_16_method_16_code
def yX1_goesOn_2 : MethodName := ⟨RX1, "goesOn", "(I)I"⟩
def dkwX1_goesOn_2_0 : List UInt8 := [3, 61, 3, 62, 29, 27, 162, 0, 16, 28, 42, 182, 0, 139, 96, 61, 132, 3, 1, 167, 255, 241, 28, 172]
abbrev dktX1_goesOn_2_0 : List UInt8 := dkwX1_goesOn_2_0 ++ []
theorem dksX1_goesOn_2_0 : cX1_goesOn_2.data.toList.drop 0 = dktX1_goesOn_2_0 := by decide +kernel
theorem dX1_goesOn_2_0 : decode cX1_goesOn_2 0 = .ok (.iconst 0, 1) := dk_3 (dk_at dksX1_goesOn_2_0 0 rfl rfl)
theorem dX1_goesOn_2_1 : decode cX1_goesOn_2 1 = .ok (.istore_n 2, 1) := dk_61 (dk_at dksX1_goesOn_2_0 1 rfl rfl)
theorem dX1_goesOn_2_2 : decode cX1_goesOn_2 2 = .ok (.iconst 0, 1) := dk_3 (dk_at dksX1_goesOn_2_0 2 rfl rfl)
theorem dX1_goesOn_2_3 : decode cX1_goesOn_2 3 = .ok (.istore_n 3, 1) := dk_62 (dk_at dksX1_goesOn_2_0 3 rfl rfl)
theorem dX1_goesOn_2_4 : decode cX1_goesOn_2 4 = .ok (.iload_n 3, 1) := dk_29 (dk_at dksX1_goesOn_2_0 4 rfl rfl)
theorem dX1_goesOn_2_5 : decode cX1_goesOn_2 5 = .ok (.iload_n 1, 1) := dk_27 (dk_at dksX1_goesOn_2_0 5 rfl rfl)
theorem dX1_goesOn_2_6 : decode cX1_goesOn_2 6 = .ok (.if_icmp .ge 16, 3) := dk_162 0 16 (dk_at dksX1_goesOn_2_0 6 rfl rfl)
theorem dX1_goesOn_2_9 : decode cX1_goesOn_2 9 = .ok (.iload_n 2, 1) := dk_28 (dk_at dksX1_goesOn_2_0 9 rfl rfl)
theorem dX1_goesOn_2_10 : decode cX1_goesOn_2 10 = .ok (.aload_n 0, 1) := dk_42 (dk_at dksX1_goesOn_2_0 10 rfl rfl)
theorem dX1_goesOn_2_11 : decode cX1_goesOn_2 11 = .ok (.invokevirtual 139, 3) := dk_182 0 139 (dk_at dksX1_goesOn_2_0 11 rfl rfl)
theorem dX1_goesOn_2_14 : decode cX1_goesOn_2 14 = .ok (.iadd, 1) := dk_96 (dk_at dksX1_goesOn_2_0 14 rfl rfl)
theorem dX1_goesOn_2_15 : decode cX1_goesOn_2 15 = .ok (.istore_n 2, 1) := dk_61 (dk_at dksX1_goesOn_2_0 15 rfl rfl)
theorem dX1_goesOn_2_16 : decode cX1_goesOn_2 16 = .ok (.iinc 3 1, 3) := dk_132 3 1 (dk_at dksX1_goesOn_2_0 16 rfl rfl)
theorem dX1_goesOn_2_19 : decode cX1_goesOn_2 19 = .ok (.goto (-15), 3) := dk_167 255 241 (dk_at dksX1_goesOn_2_0 19 rfl rfl)
theorem dX1_goesOn_2_22 : decode cX1_goesOn_2 22 = .ok (.iload_n 2, 1) := dk_28 (dk_at dksX1_goesOn_2_0 22 rfl rfl)
theorem dX1_goesOn_2_23 : decode cX1_goesOn_2 23 = .ok (.ireturn, 1) := dk_172 (dk_at dksX1_goesOn_2_0 23 rfl rfl)
abbrev cX1_areJoined : ByteArray := prog_16_method_8_code
def yX1_areJoined : MethodName := ⟨RX1, "areJoined", "(II)Z"⟩
def dkwX1_areJoined_2 : List UInt8 := [160, 0, 5, 4, 172, 132, 3, 1, 167, 255, 203, 3, 172]
abbrev dktX1_areJoined_2 : List UInt8 := dkwX1_areJoined_2 ++ []
def dkwX1_areJoined_1 : List UInt8 := [29, 46, 28, 159, 0, 23, 42, 180, 0, 19, 29, 46, 28, 160, 0, 15, 42, 180, 0, 23, 29, 46, 27]
abbrev dktX1_areJoined_1 : List UInt8 := dkwX1_areJoined_1 ++ dktX1_areJoined_2
def dkwX1_areJoined_0 : List UInt8 := [3, 62, 29, 42, 180, 0, 45, 162, 0, 51, 42, 180, 0, 19, 29, 46, 27, 160, 0, 13, 42, 180, 0, 23]
abbrev dktX1_areJoined_0 : List UInt8 := dkwX1_areJoined_0 ++ dktX1_areJoined_1
theorem dksX1_areJoined_0 : cX1_areJoined.data.toList.drop 0 = dktX1_areJoined_0 := by decide +kernel
theorem dksX1_areJoined_1 : cX1_areJoined.data.toList.drop 24 = dktX1_areJoined_1 := dk_seg dksX1_areJoined_0 24 rfl rfl
theorem dksX1_areJoined_2 : cX1_areJoined.data.toList.drop 47 = dktX1_areJoined_2 := dk_seg dksX1_areJoined_1 23 rfl rfl
theorem dX1_areJoined_0 : decode cX1_areJoined 0 = .ok (.iconst 0, 1) := dk_3 (dk_at dksX1_areJoined_0 0 rfl rfl)
theorem dX1_areJoined_1 : decode cX1_areJoined 1 = .ok (.istore_n 3, 1) := dk_62 (dk_at dksX1_areJoined_0 1 rfl rfl)
theorem dX1_areJoined_2 : decode cX1_areJoined 2 = .ok (.iload_n 3, 1) := dk_29 (dk_at dksX1_areJoined_0 2 rfl rfl)
theorem dX1_areJoined_3 : decode cX1_areJoined 3 = .ok (.aload_n 0, 1) := dk_42 (dk_at dksX1_areJoined_0 3 rfl rfl)
theorem dX1_areJoined_4 : decode cX1_areJoined 4 = .ok (.getfield 45, 3) := dk_180 0 45 (dk_at dksX1_areJoined_0 4 rfl rfl)
theorem dX1_areJoined_7 : decode cX1_areJoined 7 = .ok (.if_icmp .ge 51, 3) := dk_162 0 51 (dk_at dksX1_areJoined_0 7 rfl rfl)
theorem dX1_areJoined_10 : decode cX1_areJoined 10 = .ok (.aload_n 0, 1) := dk_42 (dk_at dksX1_areJoined_0 10 rfl rfl)
theorem dX1_areJoined_11 : decode cX1_areJoined 11 = .ok (.getfield 19, 3) := dk_180 0 19 (dk_at dksX1_areJoined_0 11 rfl rfl)
theorem dX1_areJoined_14 : decode cX1_areJoined 14 = .ok (.iload_n 3, 1) := dk_29 (dk_at dksX1_areJoined_0 14 rfl rfl)
theorem dX1_areJoined_15 : decode cX1_areJoined 15 = .ok (.iaload, 1) := dk_46 (dk_at dksX1_areJoined_0 15 rfl rfl)
theorem dX1_areJoined_16 : decode cX1_areJoined 16 = .ok (.iload_n 1, 1) := dk_27 (dk_at dksX1_areJoined_0 16 rfl rfl)
theorem dX1_areJoined_17 : decode cX1_areJoined 17 = .ok (.if_icmp .ne 13, 3) := dk_160 0 13 (dk_at dksX1_areJoined_0 17 rfl rfl)
theorem dX1_areJoined_20 : decode cX1_areJoined 20 = .ok (.aload_n 0, 1) := dk_42 (dk_at dksX1_areJoined_0 20 rfl rfl)
theorem dX1_areJoined_21 : decode cX1_areJoined 21 = .ok (.getfield 23, 3) := dk_180 0 23 (dk_at dksX1_areJoined_0 21 rfl rfl)
theorem dX1_areJoined_24 : decode cX1_areJoined 24 = .ok (.iload_n 3, 1) := dk_29 (dk_at dksX1_areJoined_1 0 rfl rfl)
theorem dX1_areJoined_25 : decode cX1_areJoined 25 = .ok (.iaload, 1) := dk_46 (dk_at dksX1_areJoined_1 1 rfl rfl)
theorem dX1_areJoined_26 : decode cX1_areJoined 26 = .ok (.iload_n 2, 1) := dk_28 (dk_at dksX1_areJoined_1 2 rfl rfl)
theorem dX1_areJoined_27 : decode cX1_areJoined 27 = .ok (.if_icmp .eq 23, 3) := dk_159 0 23 (dk_at dksX1_areJoined_1 3 rfl rfl)
theorem dX1_areJoined_30 : decode cX1_areJoined 30 = .ok (.aload_n 0, 1) := dk_42 (dk_at dksX1_areJoined_1 6 rfl rfl)
theorem dX1_areJoined_31 : decode cX1_areJoined 31 = .ok (.getfield 19, 3) := dk_180 0 19 (dk_at dksX1_areJoined_1 7 rfl rfl)
theorem dX1_areJoined_34 : decode cX1_areJoined 34 = .ok (.iload_n 3, 1) := dk_29 (dk_at dksX1_areJoined_1 10 rfl rfl)
theorem dX1_areJoined_35 : decode cX1_areJoined 35 = .ok (.iaload, 1) := dk_46 (dk_at dksX1_areJoined_1 11 rfl rfl)
theorem dX1_areJoined_36 : decode cX1_areJoined 36 = .ok (.iload_n 2, 1) := dk_28 (dk_at dksX1_areJoined_1 12 rfl rfl)
theorem dX1_areJoined_37 : decode cX1_areJoined 37 = .ok (.if_icmp .ne 15, 3) := dk_160 0 15 (dk_at dksX1_areJoined_1 13 rfl rfl)
theorem dX1_areJoined_40 : decode cX1_areJoined 40 = .ok (.aload_n 0, 1) := dk_42 (dk_at dksX1_areJoined_1 16 rfl rfl)
theorem dX1_areJoined_41 : decode cX1_areJoined 41 = .ok (.getfield 23, 3) := dk_180 0 23 (dk_at dksX1_areJoined_1 17 rfl rfl)
theorem dX1_areJoined_44 : decode cX1_areJoined 44 = .ok (.iload_n 3, 1) := dk_29 (dk_at dksX1_areJoined_1 20 rfl rfl)
theorem dX1_areJoined_45 : decode cX1_areJoined 45 = .ok (.iaload, 1) := dk_46 (dk_at dksX1_areJoined_1 21 rfl rfl)
theorem dX1_areJoined_46 : decode cX1_areJoined 46 = .ok (.iload_n 1, 1) := dk_27 (dk_at dksX1_areJoined_1 22 rfl rfl)
theorem dX1_areJoined_47 : decode cX1_areJoined 47 = .ok (.if_icmp .ne 5, 3) := dk_160 0 5 (dk_at dksX1_areJoined_2 0 rfl rfl)
theorem dX1_areJoined_50 : decode cX1_areJoined 50 = .ok (.iconst 1, 1) := dk_4 (dk_at dksX1_areJoined_2 3 rfl rfl)
theorem dX1_areJoined_51 : decode cX1_areJoined 51 = .ok (.ireturn, 1) := dk_172 (dk_at dksX1_areJoined_2 4 rfl rfl)
theorem dX1_areJoined_52 : decode cX1_areJoined 52 = .ok (.iinc 3 1, 3) := dk_132 3 1 (dk_at dksX1_areJoined_2 5 rfl rfl)
theorem dX1_areJoined_55 : decode cX1_areJoined 55 = .ok (.goto (-53), 3) := dk_167 255 203 (dk_at dksX1_areJoined_2 8 rfl rfl)
theorem dX1_areJoined_58 : decode cX1_areJoined 58 = .ok (.iconst 0, 1) := dk_3 (dk_at dksX1_areJoined_2 11 rfl rfl)
theorem dX1_areJoined_59 : decode cX1_areJoined 59 = .ok (.ireturn, 1) := dk_172 (dk_at dksX1_areJoined_2 12 rfl rfl)
abbrev cX1_corked : ByteArray := prog_16_method_4_code
def yX1_corked : MethodName := ⟨RX1, "corked", "()I"⟩
def dkwX1_corked_1 : List UInt8 := [132, 2, 1, 167, 255, 233, 27, 172]
abbrev dktX1_corked_1 : List UInt8 := dkwX1_corked_1 ++ []
def dkwX1_corked_0 : List UInt8 := [3, 60, 3, 61, 28, 42, 180, 0, 45, 162, 0, 21, 27, 42, 180, 0, 29, 28, 51, 184, 0, 81, 96, 60]
abbrev dktX1_corked_0 : List UInt8 := dkwX1_corked_0 ++ dktX1_corked_1
theorem dksX1_corked_0 : cX1_corked.data.toList.drop 0 = dktX1_corked_0 := by decide +kernel
theorem dksX1_corked_1 : cX1_corked.data.toList.drop 24 = dktX1_corked_1 := dk_seg dksX1_corked_0 24 rfl rfl
theorem dX1_corked_0 : decode cX1_corked 0 = .ok (.iconst 0, 1) := dk_3 (dk_at dksX1_corked_0 0 rfl rfl)
theorem dX1_corked_1 : decode cX1_corked 1 = .ok (.istore_n 1, 1) := dk_60 (dk_at dksX1_corked_0 1 rfl rfl)
theorem dX1_corked_2 : decode cX1_corked 2 = .ok (.iconst 0, 1) := dk_3 (dk_at dksX1_corked_0 2 rfl rfl)
theorem dX1_corked_3 : decode cX1_corked 3 = .ok (.istore_n 2, 1) := dk_61 (dk_at dksX1_corked_0 3 rfl rfl)
theorem dX1_corked_4 : decode cX1_corked 4 = .ok (.iload_n 2, 1) := dk_28 (dk_at dksX1_corked_0 4 rfl rfl)
theorem dX1_corked_5 : decode cX1_corked 5 = .ok (.aload_n 0, 1) := dk_42 (dk_at dksX1_corked_0 5 rfl rfl)
theorem dX1_corked_6 : decode cX1_corked 6 = .ok (.getfield 45, 3) := dk_180 0 45 (dk_at dksX1_corked_0 6 rfl rfl)
theorem dX1_corked_9 : decode cX1_corked 9 = .ok (.if_icmp .ge 21, 3) := dk_162 0 21 (dk_at dksX1_corked_0 9 rfl rfl)
theorem dX1_corked_12 : decode cX1_corked 12 = .ok (.iload_n 1, 1) := dk_27 (dk_at dksX1_corked_0 12 rfl rfl)
theorem dX1_corked_13 : decode cX1_corked 13 = .ok (.aload_n 0, 1) := dk_42 (dk_at dksX1_corked_0 13 rfl rfl)
theorem dX1_corked_14 : decode cX1_corked 14 = .ok (.getfield 29, 3) := dk_180 0 29 (dk_at dksX1_corked_0 14 rfl rfl)
theorem dX1_corked_17 : decode cX1_corked 17 = .ok (.iload_n 2, 1) := dk_28 (dk_at dksX1_corked_0 17 rfl rfl)
theorem dX1_corked_18 : decode cX1_corked 18 = .ok (.baload, 1) := dk_51 (dk_at dksX1_corked_0 18 rfl rfl)
theorem dX1_corked_19 : decode cX1_corked 19 = .ok (.invokestatic 81, 3) := dk_184 0 81 (dk_at dksX1_corked_0 19 rfl rfl)
theorem dX1_corked_22 : decode cX1_corked 22 = .ok (.iadd, 1) := dk_96 (dk_at dksX1_corked_0 22 rfl rfl)
theorem dX1_corked_23 : decode cX1_corked 23 = .ok (.istore_n 1, 1) := dk_60 (dk_at dksX1_corked_0 23 rfl rfl)
theorem dX1_corked_24 : decode cX1_corked 24 = .ok (.iinc 2 1, 3) := dk_132 2 1 (dk_at dksX1_corked_1 0 rfl rfl)
theorem dX1_corked_27 : decode cX1_corked 27 = .ok (.goto (-23), 3) := dk_167 255 233 (dk_at dksX1_corked_1 3 rfl rfl)
theorem dX1_corked_30 : decode cX1_corked 30 = .ok (.iload_n 1, 1) := dk_27 (dk_at dksX1_corked_1 6 rfl rfl)
theorem dX1_corked_31 : decode cX1_corked 31 = .ok (.ireturn, 1) := dk_172 (dk_at dksX1_corked_1 7 rfl rfl)
theorem q73 : (Jvm.Cond.initialized "LevelCellars$Town") ∈ lw_all := lw_g (lw_at lw_m1 2 rfl) rfl
theorem q113 : (Jvm.Cond.instantiable "LevelCellars$Town" (14 : Nat)) ∈ lw_all := lw_g (lw_at lw_m1 42 rfl) rfl
theorem q115 : (Jvm.Cond.instanceMethod ({ cls := "LevelCellars$Town", name := "<init>", desc := "(LLevelCellars;)V" } : Jvm.MethodName)) ∈ lw_all := lw_g (lw_at lw_m1 44 rfl) rfl
theorem q116 : (Jvm.Cond.code ({ cls := "LevelCellars$Town", name := "<init>", desc := "(LLevelCellars;)V" } : Jvm.MethodName) prog_16_method_1_code (2 : Nat) (Option.none : Option Jvm.ClassFile.FieldType)) ∈ lw_all := lw_g (lw_at lw_m1 45 rfl) rfl
theorem q117 : (Jvm.Cond.methodLink "LevelCellars$Town" (9 : Nat) ({ cls := "java/lang/Object", name := "<init>", desc := "()V" } : Jvm.MethodName)) ∈ lw_all := lw_g (lw_at lw_m1 46 rfl) rfl
theorem q118 : (Jvm.Cond.classLink "LevelCellars$Town" (33 : Nat) "LevelCellars$Cellar") ∈ lw_all := lw_g (lw_at lw_m1 47 rfl) rfl
theorem q120 : (Jvm.Cond.classLink "LevelCellars$Town" (39 : Nat) "LevelCellars$Text") ∈ lw_all := lw_g (lw_at lw_m1 49 rfl) rfl
theorem q122 : (Jvm.Cond.fieldLink "LevelCellars$Town" (66 : Nat) "LevelCellars$Town" "cellarN" "I") ∈ lw_all := lw_g (lw_at lw_m1 51 rfl) rfl
theorem q124 : (Jvm.Cond.fieldLink "LevelCellars$Town" (45 : Nat) "LevelCellars$Town" "pipeN" "I") ∈ lw_all := lw_g (lw_at lw_m1 53 rfl) rfl
theorem q126 : (Jvm.Cond.fieldLink "LevelCellars$Town" (48 : Nat) "LevelCellars$Town" "textN" "I") ∈ lw_all := lw_g (lw_at lw_m1 55 rfl) rfl
theorem q128 : (Jvm.Cond.fieldLink "LevelCellars$Town" (51 : Nat) "LevelCellars$Town" "hour" "I") ∈ lw_all := lw_g (lw_at lw_m1 57 rfl) rfl
theorem q130 : (Jvm.Cond.fieldLink "LevelCellars$Town" (54 : Nat) "LevelCellars$Town" "thirst" "I") ∈ lw_all := lw_g (lw_at lw_m1 59 rfl) rfl
theorem q132 : (Jvm.Cond.fieldLink "LevelCellars$Town" (57 : Nat) "LevelCellars$Town" "spilt" "I") ∈ lw_all := lw_g (lw_at lw_m1 61 rfl) rfl
theorem q134 : (Jvm.Cond.fieldLink "LevelCellars$Town" (15 : Nat) "LevelCellars$Town" "z" "I") ∈ lw_all := lw_g (lw_at lw_m1 63 rfl) rfl
theorem q136 : (Jvm.Cond.fieldLink "LevelCellars$Town" (19 : Nat) "LevelCellars$Town" "ones" "[I") ∈ lw_all := lw_g (lw_at lw_m1 65 rfl) rfl
theorem q138 : (Jvm.Cond.fieldLink "LevelCellars$Town" (23 : Nat) "LevelCellars$Town" "others" "[I") ∈ lw_all := lw_g (lw_at lw_m1 67 rfl) rfl
theorem q140 : (Jvm.Cond.fieldLink "LevelCellars$Town" (26 : Nat) "LevelCellars$Town" "wides" "[I") ∈ lw_all := lw_g (lw_at lw_m1 69 rfl) rfl
theorem q142 : (Jvm.Cond.fieldLink "LevelCellars$Town" (29 : Nat) "LevelCellars$Town" "isCorked" "[Z") ∈ lw_all := lw_g (lw_at lw_m1 71 rfl) rfl
theorem q144 : (Jvm.Cond.fieldLink "LevelCellars$Town" (35 : Nat) "LevelCellars$Town" "cellars" "[LLevelCellars$Cellar;") ∈ lw_all := lw_g (lw_at lw_m1 73 rfl) rfl
theorem q146 : (Jvm.Cond.fieldLink "LevelCellars$Town" (41 : Nat) "LevelCellars$Town" "texts" "[LLevelCellars$Text;") ∈ lw_all := lw_g (lw_at lw_m1 75 rfl) rfl
theorem q148 : (Jvm.Cond.fieldLink "LevelCellars$Town" (3 : Nat) "LevelCellars$Town" "this$0" "LLevelCellars;") ∈ lw_all := lw_g (lw_at lw_m1 77 rfl) rfl
theorem q149 : (Jvm.Cond.lays "LevelCellars$Town" "LevelCellars$Town" "cellarN" "I") ∈ lw_all := lw_g (lw_at lw_m1 78 rfl) rfl
theorem q150 : (Jvm.Cond.soleField "LevelCellars$Town" "cellarN") ∈ lw_all := lw_g (lw_at lw_m1 79 rfl) rfl
theorem q151 : (Jvm.Cond.lays "LevelCellars$Town" "LevelCellars$Town" "pipeN" "I") ∈ lw_all := lw_g (lw_at lw_m1 80 rfl) rfl
theorem q152 : (Jvm.Cond.soleField "LevelCellars$Town" "pipeN") ∈ lw_all := lw_g (lw_at lw_m1 81 rfl) rfl
theorem q153 : (Jvm.Cond.lays "LevelCellars$Town" "LevelCellars$Town" "textN" "I") ∈ lw_all := lw_g (lw_at lw_m1 82 rfl) rfl
theorem q154 : (Jvm.Cond.soleField "LevelCellars$Town" "textN") ∈ lw_all := lw_g (lw_at lw_m1 83 rfl) rfl
theorem q155 : (Jvm.Cond.lays "LevelCellars$Town" "LevelCellars$Town" "hour" "I") ∈ lw_all := lw_g (lw_at lw_m1 84 rfl) rfl
theorem q156 : (Jvm.Cond.soleField "LevelCellars$Town" "hour") ∈ lw_all := lw_g (lw_at lw_m1 85 rfl) rfl
theorem q157 : (Jvm.Cond.lays "LevelCellars$Town" "LevelCellars$Town" "thirst" "I") ∈ lw_all := lw_g (lw_at lw_m1 86 rfl) rfl
theorem q158 : (Jvm.Cond.soleField "LevelCellars$Town" "thirst") ∈ lw_all := lw_g (lw_at lw_m1 87 rfl) rfl
theorem q159 : (Jvm.Cond.lays "LevelCellars$Town" "LevelCellars$Town" "spilt" "I") ∈ lw_all := lw_g (lw_at lw_m1 88 rfl) rfl
theorem q160 : (Jvm.Cond.soleField "LevelCellars$Town" "spilt") ∈ lw_all := lw_g (lw_at lw_m1 89 rfl) rfl
theorem q161 : (Jvm.Cond.lays "LevelCellars$Town" "LevelCellars$Town" "z" "I") ∈ lw_all := lw_g (lw_at lw_m1 90 rfl) rfl
theorem q162 : (Jvm.Cond.soleField "LevelCellars$Town" "z") ∈ lw_all := lw_g (lw_at lw_m1 91 rfl) rfl
theorem q163 : (Jvm.Cond.laysFinal "LevelCellars$Town" "LevelCellars$Town" "ones" "[I") ∈ lw_all := lw_g (lw_at lw_m1 92 rfl) rfl
theorem q164 : (Jvm.Cond.soleField "LevelCellars$Town" "ones") ∈ lw_all := lw_g (lw_at lw_m1 93 rfl) rfl
theorem q165 : (Jvm.Cond.laysFinal "LevelCellars$Town" "LevelCellars$Town" "others" "[I") ∈ lw_all := lw_g (lw_at lw_m1 94 rfl) rfl
theorem q166 : (Jvm.Cond.soleField "LevelCellars$Town" "others") ∈ lw_all := lw_g (lw_at lw_m1 95 rfl) rfl
theorem q167 : (Jvm.Cond.laysFinal "LevelCellars$Town" "LevelCellars$Town" "wides" "[I") ∈ lw_all := lw_g (lw_at lw_m1 96 rfl) rfl
theorem q168 : (Jvm.Cond.soleField "LevelCellars$Town" "wides") ∈ lw_all := lw_g (lw_at lw_m1 97 rfl) rfl
theorem q169 : (Jvm.Cond.laysFinal "LevelCellars$Town" "LevelCellars$Town" "isCorked" "[Z") ∈ lw_all := lw_g (lw_at lw_m1 98 rfl) rfl
theorem q170 : (Jvm.Cond.soleField "LevelCellars$Town" "isCorked") ∈ lw_all := lw_g (lw_at lw_m1 99 rfl) rfl
theorem q171 : (Jvm.Cond.laysFinal "LevelCellars$Town" "LevelCellars$Town" "cellars" "[LLevelCellars$Cellar;") ∈ lw_all := lw_g (lw_at lw_m1 100 rfl) rfl
theorem q172 : (Jvm.Cond.soleField "LevelCellars$Town" "cellars") ∈ lw_all := lw_g (lw_at lw_m1 101 rfl) rfl
theorem q173 : (Jvm.Cond.laysFinal "LevelCellars$Town" "LevelCellars$Town" "texts" "[LLevelCellars$Text;") ∈ lw_all := lw_g (lw_at lw_m1 102 rfl) rfl
theorem q174 : (Jvm.Cond.soleField "LevelCellars$Town" "texts") ∈ lw_all := lw_g (lw_at lw_m1 103 rfl) rfl
theorem q175 : (Jvm.Cond.laysFinal "LevelCellars$Town" "LevelCellars$Town" "this$0" "LLevelCellars;") ∈ lw_all := lw_g (lw_at lw_m1 104 rfl) rfl
theorem q176 : (Jvm.Cond.soleField "LevelCellars$Town" "this$0") ∈ lw_all := lw_g (lw_at lw_m1 105 rfl) rfl
theorem q177 : (Jvm.Cond.superclass "LevelCellars$Town" "java/lang/Object") ∈ lw_all := lw_g (lw_at lw_m1 106 rfl) rfl
theorem q193 : (Jvm.Cond.fieldLinkNest "LevelCellars$Town" (110 : Nat) "LevelCellars" "going" "[I" "LevelCellars") ∈ lw_tbl := lw_at lw_m1 122 rfl
theorem q291 : (Jvm.Cond.fieldLink "LevelCellars$Town" (133 : Nat) "LevelCellars$Cellar" "lip" "I") ∈ lw_all := lw_g (lw_at lw_m1 220 rfl) rfl
theorem q293 : (Jvm.Cond.fieldLink "LevelCellars$Town" (113 : Nat) "LevelCellars$Cellar" "wines" "[I") ∈ lw_all := lw_g (lw_at lw_m1 222 rfl) rfl
theorem q739 : (Jvm.Cond.instanceMethod ({ cls := "LevelCellars$Town", name := "digs", desc := "(III)V" } : Jvm.MethodName)) ∈ lw_all := lw_g (lw_at lw_m3 188 rfl) rfl
theorem q740 : (Jvm.Cond.selects "LevelCellars$Town" ({ cls := "LevelCellars$Town", name := "digs", desc := "(III)V" } : Jvm.MethodName) ({ cls := "LevelCellars$Town", name := "digs", desc := "(III)V" } : Jvm.MethodName)) ∈ lw_all := lw_g (lw_at lw_m3 189 rfl) rfl
theorem q741 : (Jvm.Cond.code ({ cls := "LevelCellars$Town", name := "digs", desc := "(III)V" } : Jvm.MethodName) prog_16_method_7_code (4 : Nat) (Option.none : Option Jvm.ClassFile.FieldType)) ∈ lw_all := lw_g (lw_at lw_m3 190 rfl) rfl
theorem q752 : (Jvm.Cond.instanceMethod ({ cls := "LevelCellars$Town", name := "runs", desc := "(I)I" } : Jvm.MethodName)) ∈ lw_all := lw_g (lw_at lw_m3 201 rfl) rfl
theorem q753 : (Jvm.Cond.selects "LevelCellars$Town" ({ cls := "LevelCellars$Town", name := "runs", desc := "(I)I" } : Jvm.MethodName) ({ cls := "LevelCellars$Town", name := "runs", desc := "(I)I" } : Jvm.MethodName)) ∈ lw_all := lw_g (lw_at lw_m3 202 rfl) rfl
theorem q754 : (Jvm.Cond.code ({ cls := "LevelCellars$Town", name := "runs", desc := "(I)I" } : Jvm.MethodName) prog_16_method_10_code (2 : Nat) (Option.some Jvm.ClassFile.FieldType.int)) ∈ lw_all := lw_g (lw_at lw_m3 203 rfl) rfl
theorem q755 : (Jvm.Cond.methodLink "LevelCellars$Town" (104 : Nat) ({ cls := "LevelCellars$Town", name := "flow", desc := "(I)I" } : Jvm.MethodName)) ∈ lw_all := lw_g (lw_at lw_m3 204 rfl) rfl
theorem q756 : (Jvm.Cond.privateMethod ({ cls := "LevelCellars$Town", name := "flow", desc := "(I)I" } : Jvm.MethodName)) ∈ lw_tbl := lw_at lw_m3 205 rfl
theorem q757 : (Jvm.Cond.instanceMethod ({ cls := "LevelCellars$Town", name := "flow", desc := "(I)I" } : Jvm.MethodName)) ∈ lw_all := lw_g (lw_at lw_m3 206 rfl) rfl
theorem q758 : (Jvm.Cond.code ({ cls := "LevelCellars$Town", name := "flow", desc := "(I)I" } : Jvm.MethodName) prog_16_method_9_code (8 : Nat) (Option.some Jvm.ClassFile.FieldType.int)) ∈ lw_all := lw_g (lw_at lw_m3 207 rfl) rfl
theorem q759 : (Jvm.Cond.methodLink "LevelCellars$Town" (88 : Nat) ({ cls := "LevelCellars$Cellar", name := "level", desc := "()I" } : Jvm.MethodName)) ∈ lw_all := lw_g (lw_at lw_m3 208 rfl) rfl
theorem q760 : (Jvm.Cond.methodLink "LevelCellars$Town" (85 : Nat) ({ cls := "LevelCellars$Cellar", name := "full", desc := "()I" } : Jvm.MethodName)) ∈ lw_all := lw_g (lw_at lw_m3 209 rfl) rfl
theorem q761 : (Jvm.Cond.methodLink "LevelCellars$Town" (91 : Nat) ({ cls := "java/lang/Math", name := "abs", desc := "(I)I" } : Jvm.MethodName)) ∈ lw_all := lw_g (lw_at lw_m3 210 rfl) rfl
theorem q764 : (Jvm.Cond.methodLink "LevelCellars$Town" (97 : Nat) ({ cls := "java/lang/Math", name := "min", desc := "(II)I" } : Jvm.MethodName)) ∈ lw_all := lw_g (lw_at lw_m3 213 rfl) rfl
theorem q765 : (Jvm.Cond.methodLink "LevelCellars$Town" (101 : Nat) ({ cls := "LevelCellars$Cellar", name := "takes", desc := "(I)I" } : Jvm.MethodName)) ∈ lw_all := lw_g (lw_at lw_m3 214 rfl) rfl
theorem q781 : (Jvm.Cond.instanceMethod ({ cls := "LevelCellars$Town", name := "drawn", desc := "()I" } : Jvm.MethodName)) ∈ lw_all := lw_g (lw_at lw_m3 230 rfl) rfl
theorem q782 : (Jvm.Cond.selects "LevelCellars$Town" ({ cls := "LevelCellars$Town", name := "drawn", desc := "()I" } : Jvm.MethodName) ({ cls := "LevelCellars$Town", name := "drawn", desc := "()I" } : Jvm.MethodName)) ∈ lw_all := lw_g (lw_at lw_m3 231 rfl) rfl
theorem q783 : (Jvm.Cond.code ({ cls := "LevelCellars$Town", name := "drawn", desc := "()I" } : Jvm.MethodName) prog_16_method_3_code (1 : Nat) (Option.some Jvm.ClassFile.FieldType.int)) ∈ lw_all := lw_g (lw_at lw_m3 232 rfl) rfl
theorem q784 : (Jvm.Cond.constant "LevelCellars$Town" (80 : Nat) (1103515245 : Int32)) ∈ lw_all := lw_g (lw_at lw_m3 233 rfl) rfl
theorem q794 : (Jvm.Cond.instanceMethod ({ cls := "LevelCellars$Town", name := "goesOn", desc := "()I" } : Jvm.MethodName)) ∈ lw_all := lw_g (lw_at lw_m4 3 rfl) rfl
theorem q795 : (Jvm.Cond.selects "LevelCellars$Town" ({ cls := "LevelCellars$Town", name := "goesOn", desc := "()I" } : Jvm.MethodName) ({ cls := "LevelCellars$Town", name := "goesOn", desc := "()I" } : Jvm.MethodName)) ∈ lw_all := lw_g (lw_at lw_m4 4 rfl) rfl
theorem q796 : (Jvm.Cond.code ({ cls := "LevelCellars$Town", name := "goesOn", desc := "()I" } : Jvm.MethodName) prog_16_method_15_code (4 : Nat) (Option.some Jvm.ClassFile.FieldType.int)) ∈ lw_all := lw_g (lw_at lw_m4 5 rfl) rfl
theorem q797 : (Jvm.Cond.methodLink "LevelCellars$Town" (120 : Nat) ({ cls := "LevelCellars$Town", name := "runsThrough", desc := "(I)V" } : Jvm.MethodName)) ∈ lw_all := lw_g (lw_at lw_m4 6 rfl) rfl
theorem q798 : (Jvm.Cond.privateMethod ({ cls := "LevelCellars$Town", name := "runsThrough", desc := "(I)V" } : Jvm.MethodName)) ∈ lw_tbl := lw_at lw_m4 7 rfl
theorem q799 : (Jvm.Cond.instanceMethod ({ cls := "LevelCellars$Town", name := "runsThrough", desc := "(I)V" } : Jvm.MethodName)) ∈ lw_all := lw_g (lw_at lw_m4 8 rfl) rfl
theorem q800 : (Jvm.Cond.code ({ cls := "LevelCellars$Town", name := "runsThrough", desc := "(I)V" } : Jvm.MethodName) prog_16_method_13_code (5 : Nat) (Option.none : Option Jvm.ClassFile.FieldType)) ∈ lw_all := lw_g (lw_at lw_m4 9 rfl) rfl
theorem q801 : (Jvm.Cond.methodLink "LevelCellars$Town" (116 : Nat) ({ cls := "LevelCellars$Town", name := "goes", desc := "(LLevelCellars$Cellar;I)V" } : Jvm.MethodName)) ∈ lw_all := lw_g (lw_at lw_m4 10 rfl) rfl
theorem q802 : (Jvm.Cond.privateMethod ({ cls := "LevelCellars$Town", name := "goes", desc := "(LLevelCellars$Cellar;I)V" } : Jvm.MethodName)) ∈ lw_tbl := lw_at lw_m4 11 rfl
theorem q803 : (Jvm.Cond.instanceMethod ({ cls := "LevelCellars$Town", name := "goes", desc := "(LLevelCellars$Cellar;I)V" } : Jvm.MethodName)) ∈ lw_all := lw_g (lw_at lw_m4 12 rfl) rfl
theorem q804 : (Jvm.Cond.code ({ cls := "LevelCellars$Town", name := "goes", desc := "(LLevelCellars$Cellar;I)V" } : Jvm.MethodName) prog_16_method_12_code (7 : Nat) (Option.none : Option Jvm.ClassFile.FieldType)) ∈ lw_all := lw_g (lw_at lw_m4 13 rfl) rfl
theorem q805 : (Jvm.Cond.methodLink "LevelCellars$Town" (124 : Nat) ({ cls := "LevelCellars$Cellar", name := "loses", desc := "()I" } : Jvm.MethodName)) ∈ lw_all := lw_g (lw_at lw_m4 14 rfl) rfl
theorem q806 : (Jvm.Cond.methodLink "LevelCellars$Town" (127 : Nat) ({ cls := "LevelCellars$Town", name := "spills", desc := "(LLevelCellars$Cellar;I)V" } : Jvm.MethodName)) ∈ lw_all := lw_g (lw_at lw_m4 15 rfl) rfl
theorem q807 : (Jvm.Cond.privateMethod ({ cls := "LevelCellars$Town", name := "spills", desc := "(LLevelCellars$Cellar;I)V" } : Jvm.MethodName)) ∈ lw_tbl := lw_at lw_m4 16 rfl
theorem q808 : (Jvm.Cond.instanceMethod ({ cls := "LevelCellars$Town", name := "spills", desc := "(LLevelCellars$Cellar;I)V" } : Jvm.MethodName)) ∈ lw_all := lw_g (lw_at lw_m4 17 rfl) rfl
theorem q809 : (Jvm.Cond.code ({ cls := "LevelCellars$Town", name := "spills", desc := "(LLevelCellars$Cellar;I)V" } : Jvm.MethodName) prog_16_method_14_code (3 : Nat) (Option.none : Option Jvm.ClassFile.FieldType)) ∈ lw_all := lw_g (lw_at lw_m4 18 rfl) rfl
theorem q810 : (Jvm.Cond.methodLink "LevelCellars$Town" (130 : Nat) ({ cls := "LevelCellars$Cellar", name := "high", desc := "()I" } : Jvm.MethodName)) ∈ lw_all := lw_g (lw_at lw_m4 19 rfl) rfl
theorem q811 : (Jvm.Cond.methodLink "LevelCellars$Town" (136 : Nat) ({ cls := "LevelCellars$Town", name := "drawn", desc := "()I" } : Jvm.MethodName)) ∈ lw_all := lw_g (lw_at lw_m4 20 rfl) rfl
theorem q817 : (Jvm.Cond.instanceMethod ({ cls := "LevelCellars$Town", name := "all", desc := "()I" } : Jvm.MethodName)) ∈ lw_all := lw_g (lw_at lw_m4 26 rfl) rfl
theorem q818 : (Jvm.Cond.selects "LevelCellars$Town" ({ cls := "LevelCellars$Town", name := "all", desc := "()I" } : Jvm.MethodName) ({ cls := "LevelCellars$Town", name := "all", desc := "()I" } : Jvm.MethodName)) ∈ lw_all := lw_g (lw_at lw_m4 27 rfl) rfl
theorem q819 : (Jvm.Cond.code ({ cls := "LevelCellars$Town", name := "all", desc := "()I" } : Jvm.MethodName) prog_16_method_5_code (3 : Nat) (Option.some Jvm.ClassFile.FieldType.int)) ∈ lw_all := lw_g (lw_at lw_m4 28 rfl) rfl
theorem q821 : (Jvm.Cond.instanceMethod ({ cls := "LevelCellars$Town", name := "running", desc := "()I" } : Jvm.MethodName)) ∈ lw_all := lw_g (lw_at lw_m4 30 rfl) rfl
theorem q822 : (Jvm.Cond.selects "LevelCellars$Town" ({ cls := "LevelCellars$Town", name := "running", desc := "()I" } : Jvm.MethodName) ({ cls := "LevelCellars$Town", name := "running", desc := "()I" } : Jvm.MethodName)) ∈ lw_all := lw_g (lw_at lw_m4 31 rfl) rfl
theorem q823 : (Jvm.Cond.code ({ cls := "LevelCellars$Town", name := "running", desc := "()I" } : Jvm.MethodName) prog_16_method_11_code (3 : Nat) (Option.some Jvm.ClassFile.FieldType.int)) ∈ lw_all := lw_g (lw_at lw_m4 32 rfl) rfl
theorem q824 : (Jvm.Cond.methodLink "LevelCellars$Town" (107 : Nat) ({ cls := "LevelCellars$Town", name := "runs", desc := "(I)I" } : Jvm.MethodName)) ∈ lw_all := lw_g (lw_at lw_m4 33 rfl) rfl
theorem q825 : (Jvm.Cond.methodLinkNest "LevelCellars$Town" (81 : Nat) ({ cls := "LevelCellars", name := "asBit", desc := "(Z)I" } : Jvm.MethodName) "LevelCellars") ∈ lw_tbl := lw_at lw_m4 34 rfl
theorem q827 : (Jvm.Cond.instanceMethod ({ cls := "LevelCellars$Town", name := "withWine", desc := "()I" } : Jvm.MethodName)) ∈ lw_all := lw_g (lw_at lw_m4 36 rfl) rfl
theorem q828 : (Jvm.Cond.selects "LevelCellars$Town" ({ cls := "LevelCellars$Town", name := "withWine", desc := "()I" } : Jvm.MethodName) ({ cls := "LevelCellars$Town", name := "withWine", desc := "()I" } : Jvm.MethodName)) ∈ lw_all := lw_g (lw_at lw_m4 37 rfl) rfl
theorem q829 : (Jvm.Cond.code ({ cls := "LevelCellars$Town", name := "withWine", desc := "()I" } : Jvm.MethodName) prog_16_method_6_code (3 : Nat) (Option.some Jvm.ClassFile.FieldType.int)) ∈ lw_all := lw_g (lw_at lw_m4 38 rfl) rfl
theorem q839 : (Jvm.Cond.instanceMethod ({ cls := "LevelCellars$Town", name := "become", desc := "(LLevelCellars$Town;)V" } : Jvm.MethodName)) ∈ lw_all := lw_g (lw_at lw_m4 48 rfl) rfl
theorem q840 : (Jvm.Cond.selects "LevelCellars$Town" ({ cls := "LevelCellars$Town", name := "become", desc := "(LLevelCellars$Town;)V" } : Jvm.MethodName) ({ cls := "LevelCellars$Town", name := "become", desc := "(LLevelCellars$Town;)V" } : Jvm.MethodName)) ∈ lw_all := lw_g (lw_at lw_m4 49 rfl) rfl
theorem q841 : (Jvm.Cond.code ({ cls := "LevelCellars$Town", name := "become", desc := "(LLevelCellars$Town;)V" } : Jvm.MethodName) prog_16_method_2_code (4 : Nat) (Option.none : Option Jvm.ClassFile.FieldType)) ∈ lw_all := lw_g (lw_at lw_m4 50 rfl) rfl
theorem q842 : (Jvm.Cond.methodLink "LevelCellars$Town" (60 : Nat) ({ cls := "java/lang/System", name := "arraycopy", desc := "(Ljava/lang/Object;ILjava/lang/Object;II)V" } : Jvm.MethodName)) ∈ lw_all := lw_g (lw_at lw_m4 51 rfl) rfl
theorem q843 : (Jvm.Cond.methodLink "LevelCellars$Town" (69 : Nat) ({ cls := "LevelCellars$Cellar", name := "kind", desc := "()I" } : Jvm.MethodName)) ∈ lw_all := lw_g (lw_at lw_m4 52 rfl) rfl
theorem q844 : (Jvm.Cond.methodLink "LevelCellars$Town" (73 : Nat) ({ cls := "LevelCellars$Cellar", name := "like", desc := "(LLevelCellars$Cellar;)LLevelCellars$Cellar;" } : Jvm.MethodName)) ∈ lw_all := lw_g (lw_at lw_m4 53 rfl) rfl
theorem q845 : (Jvm.Cond.methodLinkNest "LevelCellars$Town" (77 : Nat) ({ cls := "LevelCellars", name := "anew", desc := "(LLevelCellars$Cellar;)LLevelCellars$Cellar;" } : Jvm.MethodName) "LevelCellars") ∈ lw_tbl := lw_at lw_m4 54 rfl
theorem q850 : (Jvm.Cond.instanceMethod ({ cls := "LevelCellars$Town", name := "goesOn", desc := "(I)I" } : Jvm.MethodName)) ∈ lw_all := lw_g (lw_at lw_m4 59 rfl) rfl
theorem q851 : (Jvm.Cond.selects "LevelCellars$Town" ({ cls := "LevelCellars$Town", name := "goesOn", desc := "(I)I" } : Jvm.MethodName) ({ cls := "LevelCellars$Town", name := "goesOn", desc := "(I)I" } : Jvm.MethodName)) ∈ lw_all := lw_g (lw_at lw_m4 60 rfl) rfl
theorem q852 : (Jvm.Cond.code ({ cls := "LevelCellars$Town", name := "goesOn", desc := "(I)I" } : Jvm.MethodName) prog_16_method_16_code (4 : Nat) (Option.some Jvm.ClassFile.FieldType.int)) ∈ lw_all := lw_g (lw_at lw_m4 61 rfl) rfl
theorem q853 : (Jvm.Cond.methodLink "LevelCellars$Town" (139 : Nat) ({ cls := "LevelCellars$Town", name := "goesOn", desc := "()I" } : Jvm.MethodName)) ∈ lw_all := lw_g (lw_at lw_m4 62 rfl) rfl
theorem q878 : (Jvm.Cond.instanceMethod ({ cls := "LevelCellars$Town", name := "areJoined", desc := "(II)Z" } : Jvm.MethodName)) ∈ lw_all := lw_g (lw_at lw_m4 87 rfl) rfl
theorem q879 : (Jvm.Cond.selects "LevelCellars$Town" ({ cls := "LevelCellars$Town", name := "areJoined", desc := "(II)Z" } : Jvm.MethodName) ({ cls := "LevelCellars$Town", name := "areJoined", desc := "(II)Z" } : Jvm.MethodName)) ∈ lw_all := lw_g (lw_at lw_m4 88 rfl) rfl
theorem q880 : (Jvm.Cond.code ({ cls := "LevelCellars$Town", name := "areJoined", desc := "(II)Z" } : Jvm.MethodName) prog_16_method_8_code (4 : Nat) (Option.some Jvm.ClassFile.FieldType.boolean)) ∈ lw_all := lw_g (lw_at lw_m4 89 rfl) rfl
theorem q1373 : (Jvm.Cond.instanceMethod ({ cls := "LevelCellars$Town", name := "corked", desc := "()I" } : Jvm.MethodName)) ∈ lw_all := lw_g (lw_at lw_m6 102 rfl) rfl
theorem q1374 : (Jvm.Cond.selects "LevelCellars$Town" ({ cls := "LevelCellars$Town", name := "corked", desc := "()I" } : Jvm.MethodName) ({ cls := "LevelCellars$Town", name := "corked", desc := "()I" } : Jvm.MethodName)) ∈ lw_all := lw_g (lw_at lw_m6 103 rfl) rfl
theorem q1375 : (Jvm.Cond.code ({ cls := "LevelCellars$Town", name := "corked", desc := "()I" } : Jvm.MethodName) prog_16_method_4_code (3 : Nat) (Option.some Jvm.ClassFile.FieldType.int)) ∈ lw_all := lw_g (lw_at lw_m6 104 rfl) rfl
theorem in_X1 : ∀ w ∈ wsX10, w ∈ lw_all := lw_in wsX10 [149, 151, 153, 155, 157, 159, 161, 163, 165, 167, 169, 171, 173, 175] (by decide +kernel) (by decide +kernel)
/-! LevelCellars$Holder -/
set_option maxRecDepth 100000
def RX2 : String := "LevelCellars$Holder"
def TX2 : u_T := fun k => match k with
  | _ => ("LevelCellars$Holder", "held", "Ljava/lang/Object;", false)
def tyX2 : Nat → FieldType := fun k => match k with
  | _ => .object "java/lang/Object"
abbrev wsX20 : List Cond := u_ws RX2 TX2 1
theorem nmX2 : ∀ a, a < 1 → ∀ b, b < 1 → a ≠ b → (TX2 a).2.1 ≠ (TX2 b).2.1 := by decide +kernel
theorem tyX2_ok : ∀ k, k < 1 → parseFieldDescriptor (TX2 k).2.2.1 = some (tyX2 k) := by decide +kernel
abbrev cX2_init : ByteArray := prog_7_method_1_code
def yX2_init : MethodName := ⟨RX2, "<init>", "()V"⟩
theorem dX2_init_0 : decode cX2_init 0 = .ok (.aload_n 0, 1) := by decide +kernel
theorem dX2_init_1 : decode cX2_init 1 = .ok (.invokespecial 1, 3) := by decide +kernel
theorem dX2_init_4 : decode cX2_init 4 = .ok (.return_, 1) := by decide +kernel
theorem q74 : (Jvm.Cond.initialized "LevelCellars$Holder") ∈ lw_all := lw_g (lw_at lw_m1 3 rfl) rfl
theorem q182 : (Jvm.Cond.instantiable "LevelCellars$Holder" (1 : Nat)) ∈ lw_all := lw_g (lw_at lw_m1 111 rfl) rfl
theorem q184 : (Jvm.Cond.instanceMethod ({ cls := "LevelCellars$Holder", name := "<init>", desc := "()V" } : Jvm.MethodName)) ∈ lw_all := lw_g (lw_at lw_m1 113 rfl) rfl
theorem q185 : (Jvm.Cond.code ({ cls := "LevelCellars$Holder", name := "<init>", desc := "()V" } : Jvm.MethodName) prog_7_method_1_code (1 : Nat) (Option.none : Option Jvm.ClassFile.FieldType)) ∈ lw_all := lw_g (lw_at lw_m1 114 rfl) rfl
theorem q186 : (Jvm.Cond.methodLink "LevelCellars$Holder" (1 : Nat) ({ cls := "java/lang/Object", name := "<init>", desc := "()V" } : Jvm.MethodName)) ∈ lw_all := lw_g (lw_at lw_m1 115 rfl) rfl
theorem q188 : (Jvm.Cond.lays "LevelCellars$Holder" "LevelCellars$Holder" "held" "Ljava/lang/Object;") ∈ lw_all := lw_g (lw_at lw_m1 117 rfl) rfl
theorem q189 : (Jvm.Cond.soleField "LevelCellars$Holder" "held") ∈ lw_all := lw_g (lw_at lw_m1 118 rfl) rfl
theorem q190 : (Jvm.Cond.superclass "LevelCellars$Holder" "java/lang/Object") ∈ lw_all := lw_g (lw_at lw_m1 119 rfl) rfl
theorem in_X2 : ∀ w ∈ wsX20, w ∈ lw_all := lw_in wsX20 [188] (by decide +kernel) (by decide +kernel)
/-! LevelCellars$Cellar -/
set_option maxRecDepth 100000
def RX4 : String := "LevelCellars$Cellar"
def TX4 : u_T := fun k => match k with
  | 0 => ("LevelCellars$Cellar", "floor", "I", false)
  | 1 => ("LevelCellars$Cellar", "lip", "I", false)
  | 2 => ("LevelCellars$Cellar", "wines", "[I", true)
  | _ => ("LevelCellars$Cellar", "this$0", "LLevelCellars;", true)
def tyX4 : Nat → FieldType := fun k => match k with
  | 0 => .int
  | 1 => .int
  | 2 => .array .int
  | _ => .object "LevelCellars"
abbrev wsX40 : List Cond := u_ws RX4 TX4 4
theorem nmX4 : ∀ a, a < 4 → ∀ b, b < 4 → a ≠ b → (TX4 a).2.1 ≠ (TX4 b).2.1 := by decide +kernel
theorem tyX4_ok : ∀ k, k < 4 → parseFieldDescriptor (TX4 k).2.2.1 = some (tyX4 k) := by decide +kernel
abbrev cX4_init : ByteArray := prog_2_method_1_code
def yX4_init : MethodName := ⟨RX4, "<init>", "(LLevelCellars;)V"⟩
def dkwX4_init_0 : List UInt8 := [42, 43, 181, 0, 3, 42, 183, 0, 9, 42, 6, 188, 10, 181, 0, 15, 177]
abbrev dktX4_init_0 : List UInt8 := dkwX4_init_0 ++ []
theorem dksX4_init_0 : cX4_init.data.toList.drop 0 = dktX4_init_0 := by decide +kernel
theorem dX4_init_0 : decode cX4_init 0 = .ok (.aload_n 0, 1) := dk_42 (dk_at dksX4_init_0 0 rfl rfl)
theorem dX4_init_1 : decode cX4_init 1 = .ok (.aload_n 1, 1) := dk_43 (dk_at dksX4_init_0 1 rfl rfl)
theorem dX4_init_2 : decode cX4_init 2 = .ok (.putfield 3, 3) := dk_181 0 3 (dk_at dksX4_init_0 2 rfl rfl)
theorem dX4_init_5 : decode cX4_init 5 = .ok (.aload_n 0, 1) := dk_42 (dk_at dksX4_init_0 5 rfl rfl)
theorem dX4_init_6 : decode cX4_init 6 = .ok (.invokespecial 9, 3) := dk_183 0 9 (dk_at dksX4_init_0 6 rfl rfl)
theorem dX4_init_9 : decode cX4_init 9 = .ok (.aload_n 0, 1) := dk_42 (dk_at dksX4_init_0 9 rfl rfl)
theorem dX4_init_10 : decode cX4_init 10 = .ok (.iconst 3, 1) := dk_6 (dk_at dksX4_init_0 10 rfl rfl)
theorem dX4_init_11 : decode cX4_init 11 = .ok (.newarray .int, 2) := dk_188_10 (dk_at dksX4_init_0 11 rfl rfl)
theorem dX4_init_13 : decode cX4_init 13 = .ok (.putfield 15, 3) := dk_181 0 15 (dk_at dksX4_init_0 13 rfl rfl)
theorem dX4_init_16 : decode cX4_init 16 = .ok (.return_, 1) := dk_177 (dk_at dksX4_init_0 16 rfl rfl)
abbrev cX4_kind : ByteArray := prog_2_method_2_code
def yX4_kind : MethodName := ⟨RX4, "kind", "()I"⟩
theorem dX4_kind_0 : decode cX4_kind 0 = .ok (.iconst 0, 1) := by decide +kernel
theorem dX4_kind_1 : decode cX4_kind 1 = .ok (.ireturn, 1) := by decide +kernel
abbrev cX4_full : ByteArray := prog_2_method_4_code
def yX4_full : MethodName := ⟨RX4, "full", "()I"⟩
def dkwX4_full_0 : List UInt8 := [42, 180, 0, 15, 3, 46, 42, 180, 0, 15, 4, 46, 96, 42, 180, 0, 15, 5, 46, 96, 172]
abbrev dktX4_full_0 : List UInt8 := dkwX4_full_0 ++ []
theorem dksX4_full_0 : cX4_full.data.toList.drop 0 = dktX4_full_0 := by decide +kernel
theorem dX4_full_0 : decode cX4_full 0 = .ok (.aload_n 0, 1) := dk_42 (dk_at dksX4_full_0 0 rfl rfl)
theorem dX4_full_1 : decode cX4_full 1 = .ok (.getfield 15, 3) := dk_180 0 15 (dk_at dksX4_full_0 1 rfl rfl)
theorem dX4_full_4 : decode cX4_full 4 = .ok (.iconst 0, 1) := dk_3 (dk_at dksX4_full_0 4 rfl rfl)
theorem dX4_full_5 : decode cX4_full 5 = .ok (.iaload, 1) := dk_46 (dk_at dksX4_full_0 5 rfl rfl)
theorem dX4_full_6 : decode cX4_full 6 = .ok (.aload_n 0, 1) := dk_42 (dk_at dksX4_full_0 6 rfl rfl)
theorem dX4_full_7 : decode cX4_full 7 = .ok (.getfield 15, 3) := dk_180 0 15 (dk_at dksX4_full_0 7 rfl rfl)
theorem dX4_full_10 : decode cX4_full 10 = .ok (.iconst 1, 1) := dk_4 (dk_at dksX4_full_0 10 rfl rfl)
theorem dX4_full_11 : decode cX4_full 11 = .ok (.iaload, 1) := dk_46 (dk_at dksX4_full_0 11 rfl rfl)
theorem dX4_full_12 : decode cX4_full 12 = .ok (.iadd, 1) := dk_96 (dk_at dksX4_full_0 12 rfl rfl)
theorem dX4_full_13 : decode cX4_full 13 = .ok (.aload_n 0, 1) := dk_42 (dk_at dksX4_full_0 13 rfl rfl)
theorem dX4_full_14 : decode cX4_full 14 = .ok (.getfield 15, 3) := dk_180 0 15 (dk_at dksX4_full_0 14 rfl rfl)
theorem dX4_full_17 : decode cX4_full 17 = .ok (.iconst 2, 1) := dk_5 (dk_at dksX4_full_0 17 rfl rfl)
theorem dX4_full_18 : decode cX4_full 18 = .ok (.iaload, 1) := dk_46 (dk_at dksX4_full_0 18 rfl rfl)
theorem dX4_full_19 : decode cX4_full 19 = .ok (.iadd, 1) := dk_96 (dk_at dksX4_full_0 19 rfl rfl)
theorem dX4_full_20 : decode cX4_full 20 = .ok (.ireturn, 1) := dk_172 (dk_at dksX4_full_0 20 rfl rfl)
abbrev cX4_high : ByteArray := prog_2_method_5_code
def yX4_high : MethodName := ⟨RX4, "high", "()I"⟩
def dkwX4_high_2 : List UInt8 := [3, 42, 182, 0, 35, 16, 10, 108, 182, 0, 39, 3, 17, 3, 231, 184, 0, 43, 172]
abbrev dktX4_high_2 : List UInt8 := dkwX4_high_2 ++ []
def dkwX4_high_1 : List UInt8 := [180, 0, 23, 79, 42, 180, 0, 3, 180, 0, 32, 16, 119, 42, 180, 0, 15, 3, 46, 79, 42, 180, 0, 3]
abbrev dktX4_high_1 : List UInt8 := dkwX4_high_1 ++ dktX4_high_2
def dkwX4_high_0 : List UInt8 := [42, 180, 0, 3, 180, 0, 32, 16, 102, 42, 182, 0, 35, 79, 42, 180, 0, 3, 180, 0, 32, 16, 108, 42]
abbrev dktX4_high_0 : List UInt8 := dkwX4_high_0 ++ dktX4_high_1
theorem dksX4_high_0 : cX4_high.data.toList.drop 0 = dktX4_high_0 := by decide +kernel
theorem dksX4_high_1 : cX4_high.data.toList.drop 24 = dktX4_high_1 := dk_seg dksX4_high_0 24 rfl rfl
theorem dksX4_high_2 : cX4_high.data.toList.drop 48 = dktX4_high_2 := dk_seg dksX4_high_1 24 rfl rfl
theorem dX4_high_0 : decode cX4_high 0 = .ok (.aload_n 0, 1) := dk_42 (dk_at dksX4_high_0 0 rfl rfl)
theorem dX4_high_1 : decode cX4_high 1 = .ok (.getfield 3, 3) := dk_180 0 3 (dk_at dksX4_high_0 1 rfl rfl)
theorem dX4_high_4 : decode cX4_high 4 = .ok (.getfield 32, 3) := dk_180 0 32 (dk_at dksX4_high_0 4 rfl rfl)
theorem dX4_high_7 : decode cX4_high 7 = .ok (.bipush 102, 2) := dk_16 102 (dk_at dksX4_high_0 7 rfl rfl)
theorem dX4_high_9 : decode cX4_high 9 = .ok (.aload_n 0, 1) := dk_42 (dk_at dksX4_high_0 9 rfl rfl)
theorem dX4_high_10 : decode cX4_high 10 = .ok (.invokevirtual 35, 3) := dk_182 0 35 (dk_at dksX4_high_0 10 rfl rfl)
theorem dX4_high_13 : decode cX4_high 13 = .ok (.iastore, 1) := dk_79 (dk_at dksX4_high_0 13 rfl rfl)
theorem dX4_high_14 : decode cX4_high 14 = .ok (.aload_n 0, 1) := dk_42 (dk_at dksX4_high_0 14 rfl rfl)
theorem dX4_high_15 : decode cX4_high 15 = .ok (.getfield 3, 3) := dk_180 0 3 (dk_at dksX4_high_0 15 rfl rfl)
theorem dX4_high_18 : decode cX4_high 18 = .ok (.getfield 32, 3) := dk_180 0 32 (dk_at dksX4_high_0 18 rfl rfl)
theorem dX4_high_21 : decode cX4_high 21 = .ok (.bipush 108, 2) := dk_16 108 (dk_at dksX4_high_0 21 rfl rfl)
theorem dX4_high_23 : decode cX4_high 23 = .ok (.aload_n 0, 1) := dk_42 (dk_at dksX4_high_0 23 rfl rfl)
theorem dX4_high_24 : decode cX4_high 24 = .ok (.getfield 23, 3) := dk_180 0 23 (dk_at dksX4_high_1 0 rfl rfl)
theorem dX4_high_27 : decode cX4_high 27 = .ok (.iastore, 1) := dk_79 (dk_at dksX4_high_1 3 rfl rfl)
theorem dX4_high_28 : decode cX4_high 28 = .ok (.aload_n 0, 1) := dk_42 (dk_at dksX4_high_1 4 rfl rfl)
theorem dX4_high_29 : decode cX4_high 29 = .ok (.getfield 3, 3) := dk_180 0 3 (dk_at dksX4_high_1 5 rfl rfl)
theorem dX4_high_32 : decode cX4_high 32 = .ok (.getfield 32, 3) := dk_180 0 32 (dk_at dksX4_high_1 8 rfl rfl)
theorem dX4_high_35 : decode cX4_high 35 = .ok (.bipush 119, 2) := dk_16 119 (dk_at dksX4_high_1 11 rfl rfl)
theorem dX4_high_37 : decode cX4_high 37 = .ok (.aload_n 0, 1) := dk_42 (dk_at dksX4_high_1 13 rfl rfl)
theorem dX4_high_38 : decode cX4_high 38 = .ok (.getfield 15, 3) := dk_180 0 15 (dk_at dksX4_high_1 14 rfl rfl)
theorem dX4_high_41 : decode cX4_high 41 = .ok (.iconst 0, 1) := dk_3 (dk_at dksX4_high_1 17 rfl rfl)
theorem dX4_high_42 : decode cX4_high 42 = .ok (.iaload, 1) := dk_46 (dk_at dksX4_high_1 18 rfl rfl)
theorem dX4_high_43 : decode cX4_high 43 = .ok (.iastore, 1) := dk_79 (dk_at dksX4_high_1 19 rfl rfl)
theorem dX4_high_44 : decode cX4_high 44 = .ok (.aload_n 0, 1) := dk_42 (dk_at dksX4_high_1 20 rfl rfl)
theorem dX4_high_45 : decode cX4_high 45 = .ok (.getfield 3, 3) := dk_180 0 3 (dk_at dksX4_high_1 21 rfl rfl)
theorem dX4_high_48 : decode cX4_high 48 = .ok (.iconst 0, 1) := dk_3 (dk_at dksX4_high_2 0 rfl rfl)
theorem dX4_high_49 : decode cX4_high 49 = .ok (.aload_n 0, 1) := dk_42 (dk_at dksX4_high_2 1 rfl rfl)
theorem dX4_high_50 : decode cX4_high 50 = .ok (.invokevirtual 35, 3) := dk_182 0 35 (dk_at dksX4_high_2 2 rfl rfl)
theorem dX4_high_53 : decode cX4_high 53 = .ok (.bipush 10, 2) := dk_16 10 (dk_at dksX4_high_2 5 rfl rfl)
theorem dX4_high_55 : decode cX4_high 55 = .ok (.idiv, 1) := dk_108 (dk_at dksX4_high_2 7 rfl rfl)
theorem dX4_high_56 : decode cX4_high 56 = .ok (.invokevirtual 39, 3) := dk_182 0 39 (dk_at dksX4_high_2 8 rfl rfl)
theorem dX4_high_59 : decode cX4_high 59 = .ok (.iconst 0, 1) := dk_3 (dk_at dksX4_high_2 11 rfl rfl)
theorem dX4_high_60 : decode cX4_high 60 = .ok (.sipush 999, 3) := dk_17 3 231 (dk_at dksX4_high_2 12 rfl rfl)
theorem dX4_high_63 : decode cX4_high 63 = .ok (.invokestatic 43, 3) := dk_184 0 43 (dk_at dksX4_high_2 15 rfl rfl)
theorem dX4_high_66 : decode cX4_high 66 = .ok (.ireturn, 1) := dk_172 (dk_at dksX4_high_2 18 rfl rfl)
abbrev cX4_level : ByteArray := prog_2_method_6_code
def yX4_level : MethodName := ⟨RX4, "level", "()I"⟩
def dkwX4_level_0 : List UInt8 := [42, 42, 180, 0, 19, 182, 0, 47, 172]
abbrev dktX4_level_0 : List UInt8 := dkwX4_level_0 ++ []
theorem dksX4_level_0 : cX4_level.data.toList.drop 0 = dktX4_level_0 := by decide +kernel
theorem dX4_level_0 : decode cX4_level 0 = .ok (.aload_n 0, 1) := dk_42 (dk_at dksX4_level_0 0 rfl rfl)
theorem dX4_level_1 : decode cX4_level 1 = .ok (.aload_n 0, 1) := dk_42 (dk_at dksX4_level_0 1 rfl rfl)
theorem dX4_level_2 : decode cX4_level 2 = .ok (.getfield 19, 3) := dk_180 0 19 (dk_at dksX4_level_0 2 rfl rfl)
theorem dX4_level_5 : decode cX4_level 5 = .ok (.invokevirtual 47, 3) := dk_182 0 47 (dk_at dksX4_level_0 5 rfl rfl)
theorem dX4_level_8 : decode cX4_level 8 = .ok (.ireturn, 1) := dk_172 (dk_at dksX4_level_0 8 rfl rfl)
abbrev cX4_loses : ByteArray := prog_2_method_7_code
def yX4_loses : MethodName := ⟨RX4, "loses", "()I"⟩
theorem dX4_loses_0 : decode cX4_loses 0 = .ok (.iconst 0, 1) := by decide +kernel
theorem dX4_loses_1 : decode cX4_loses 1 = .ok (.ireturn, 1) := by decide +kernel
abbrev cX4_worth : ByteArray := prog_2_method_9_code
def yX4_worth : MethodName := ⟨RX4, "worth", "()I"⟩
theorem dX4_worth_0 : decode cX4_worth 0 = .ok (.aload_n 0, 1) := by decide +kernel
theorem dX4_worth_1 : decode cX4_worth 1 = .ok (.getfield 23, 3) := by decide +kernel
theorem dX4_worth_4 : decode cX4_worth 4 = .ok (.ireturn, 1) := by decide +kernel
abbrev cX4_takes : ByteArray := prog_2_method_8_code
def yX4_takes : MethodName := ⟨RX4, "takes", "(I)I"⟩
theorem dX4_takes_0 : decode cX4_takes 0 = .ok (.iload_n 1, 1) := by decide +kernel
theorem dX4_takes_1 : decode cX4_takes 1 = .ok (.ireturn, 1) := by decide +kernel
abbrev cX4_like : ByteArray := prog_2_method_3_code
def yX4_like : MethodName := ⟨RX4, "like", "(LLevelCellars$Cellar;)LLevelCellars$Cellar;"⟩
def dkwX4_like_1 : List UInt8 := [180, 0, 15, 3, 6, 184, 0, 26, 42, 176]
abbrev dktX4_like_1 : List UInt8 := dkwX4_like_1 ++ []
def dkwX4_like_0 : List UInt8 := [42, 43, 180, 0, 19, 181, 0, 19, 42, 43, 180, 0, 23, 181, 0, 23, 43, 180, 0, 15, 3, 42]
abbrev dktX4_like_0 : List UInt8 := dkwX4_like_0 ++ dktX4_like_1
theorem dksX4_like_0 : cX4_like.data.toList.drop 0 = dktX4_like_0 := by decide +kernel
theorem dksX4_like_1 : cX4_like.data.toList.drop 22 = dktX4_like_1 := dk_seg dksX4_like_0 22 rfl rfl
theorem dX4_like_0 : decode cX4_like 0 = .ok (.aload_n 0, 1) := dk_42 (dk_at dksX4_like_0 0 rfl rfl)
theorem dX4_like_1 : decode cX4_like 1 = .ok (.aload_n 1, 1) := dk_43 (dk_at dksX4_like_0 1 rfl rfl)
theorem dX4_like_2 : decode cX4_like 2 = .ok (.getfield 19, 3) := dk_180 0 19 (dk_at dksX4_like_0 2 rfl rfl)
theorem dX4_like_5 : decode cX4_like 5 = .ok (.putfield 19, 3) := dk_181 0 19 (dk_at dksX4_like_0 5 rfl rfl)
theorem dX4_like_8 : decode cX4_like 8 = .ok (.aload_n 0, 1) := dk_42 (dk_at dksX4_like_0 8 rfl rfl)
theorem dX4_like_9 : decode cX4_like 9 = .ok (.aload_n 1, 1) := dk_43 (dk_at dksX4_like_0 9 rfl rfl)
theorem dX4_like_10 : decode cX4_like 10 = .ok (.getfield 23, 3) := dk_180 0 23 (dk_at dksX4_like_0 10 rfl rfl)
theorem dX4_like_13 : decode cX4_like 13 = .ok (.putfield 23, 3) := dk_181 0 23 (dk_at dksX4_like_0 13 rfl rfl)
theorem dX4_like_16 : decode cX4_like 16 = .ok (.aload_n 1, 1) := dk_43 (dk_at dksX4_like_0 16 rfl rfl)
theorem dX4_like_17 : decode cX4_like 17 = .ok (.getfield 15, 3) := dk_180 0 15 (dk_at dksX4_like_0 17 rfl rfl)
theorem dX4_like_20 : decode cX4_like 20 = .ok (.iconst 0, 1) := dk_3 (dk_at dksX4_like_0 20 rfl rfl)
theorem dX4_like_21 : decode cX4_like 21 = .ok (.aload_n 0, 1) := dk_42 (dk_at dksX4_like_0 21 rfl rfl)
theorem dX4_like_22 : decode cX4_like 22 = .ok (.getfield 15, 3) := dk_180 0 15 (dk_at dksX4_like_1 0 rfl rfl)
theorem dX4_like_25 : decode cX4_like 25 = .ok (.iconst 0, 1) := dk_3 (dk_at dksX4_like_1 3 rfl rfl)
theorem dX4_like_26 : decode cX4_like 26 = .ok (.iconst 3, 1) := dk_6 (dk_at dksX4_like_1 4 rfl rfl)
theorem dX4_like_27 : decode cX4_like 27 = .ok (.invokestatic 26, 3) := dk_184 0 26 (dk_at dksX4_like_1 5 rfl rfl)
theorem dX4_like_30 : decode cX4_like 30 = .ok (.aload_n 0, 1) := dk_42 (dk_at dksX4_like_1 8 rfl rfl)
theorem dX4_like_31 : decode cX4_like 31 = .ok (.areturn, 1) := dk_176 (dk_at dksX4_like_1 9 rfl rfl)
abbrev cX4_empties : ByteArray := prog_2_method_10_code
def yX4_empties : MethodName := ⟨RX4, "empties", "()V"⟩
def dkwX4_empties_0 : List UInt8 := [3, 60, 27, 6, 162, 0, 16, 42, 180, 0, 15, 27, 3, 79, 132, 1, 1, 167, 255, 241, 177]
abbrev dktX4_empties_0 : List UInt8 := dkwX4_empties_0 ++ []
theorem dksX4_empties_0 : cX4_empties.data.toList.drop 0 = dktX4_empties_0 := by decide +kernel
theorem dX4_empties_0 : decode cX4_empties 0 = .ok (.iconst 0, 1) := dk_3 (dk_at dksX4_empties_0 0 rfl rfl)
theorem dX4_empties_1 : decode cX4_empties 1 = .ok (.istore_n 1, 1) := dk_60 (dk_at dksX4_empties_0 1 rfl rfl)
theorem dX4_empties_2 : decode cX4_empties 2 = .ok (.iload_n 1, 1) := dk_27 (dk_at dksX4_empties_0 2 rfl rfl)
theorem dX4_empties_3 : decode cX4_empties 3 = .ok (.iconst 3, 1) := dk_6 (dk_at dksX4_empties_0 3 rfl rfl)
theorem dX4_empties_4 : decode cX4_empties 4 = .ok (.if_icmp .ge 16, 3) := dk_162 0 16 (dk_at dksX4_empties_0 4 rfl rfl)
theorem dX4_empties_7 : decode cX4_empties 7 = .ok (.aload_n 0, 1) := dk_42 (dk_at dksX4_empties_0 7 rfl rfl)
theorem dX4_empties_8 : decode cX4_empties 8 = .ok (.getfield 15, 3) := dk_180 0 15 (dk_at dksX4_empties_0 8 rfl rfl)
theorem dX4_empties_11 : decode cX4_empties 11 = .ok (.iload_n 1, 1) := dk_27 (dk_at dksX4_empties_0 11 rfl rfl)
theorem dX4_empties_12 : decode cX4_empties 12 = .ok (.iconst 0, 1) := dk_3 (dk_at dksX4_empties_0 12 rfl rfl)
theorem dX4_empties_13 : decode cX4_empties 13 = .ok (.iastore, 1) := dk_79 (dk_at dksX4_empties_0 13 rfl rfl)
theorem dX4_empties_14 : decode cX4_empties 14 = .ok (.iinc 1 1, 3) := dk_132 1 1 (dk_at dksX4_empties_0 14 rfl rfl)
theorem dX4_empties_17 : decode cX4_empties 17 = .ok (.goto (-15), 3) := dk_167 255 241 (dk_at dksX4_empties_0 17 rfl rfl)
theorem dX4_empties_20 : decode cX4_empties 20 = .ok (.return_, 1) := dk_177 (dk_at dksX4_empties_0 20 rfl rfl)
theorem q76 : (Jvm.Cond.initialized "LevelCellars$Cellar") ∈ lw_all := lw_g (lw_at lw_m1 5 rfl) rfl
theorem q199 : (Jvm.Cond.fieldLinkNest "LevelCellars$Cellar" (32 : Nat) "LevelCellars" "named" "[I" "LevelCellars") ∈ lw_tbl := lw_at lw_m1 128 rfl
theorem q282 : (Jvm.Cond.instantiable "LevelCellars$Cellar" (4 : Nat)) ∈ lw_all := lw_g (lw_at lw_m1 211 rfl) rfl
theorem q284 : (Jvm.Cond.instanceMethod ({ cls := "LevelCellars$Cellar", name := "<init>", desc := "(LLevelCellars;)V" } : Jvm.MethodName)) ∈ lw_all := lw_g (lw_at lw_m1 213 rfl) rfl
theorem q285 : (Jvm.Cond.code ({ cls := "LevelCellars$Cellar", name := "<init>", desc := "(LLevelCellars;)V" } : Jvm.MethodName) prog_2_method_1_code (2 : Nat) (Option.none : Option Jvm.ClassFile.FieldType)) ∈ lw_all := lw_g (lw_at lw_m1 214 rfl) rfl
theorem q286 : (Jvm.Cond.methodLink "LevelCellars$Cellar" (9 : Nat) ({ cls := "java/lang/Object", name := "<init>", desc := "()V" } : Jvm.MethodName)) ∈ lw_all := lw_g (lw_at lw_m1 215 rfl) rfl
theorem q287 : (Jvm.Cond.fieldLink "LevelCellars$Cellar" (19 : Nat) "LevelCellars$Cellar" "floor" "I") ∈ lw_all := lw_g (lw_at lw_m1 216 rfl) rfl
theorem q289 : (Jvm.Cond.fieldLink "LevelCellars$Cellar" (23 : Nat) "LevelCellars$Cellar" "lip" "I") ∈ lw_all := lw_g (lw_at lw_m1 218 rfl) rfl
theorem q292 : (Jvm.Cond.fieldLink "LevelCellars$Cellar" (15 : Nat) "LevelCellars$Cellar" "wines" "[I") ∈ lw_all := lw_g (lw_at lw_m1 221 rfl) rfl
theorem q295 : (Jvm.Cond.fieldLink "LevelCellars$Cellar" (3 : Nat) "LevelCellars$Cellar" "this$0" "LLevelCellars;") ∈ lw_all := lw_g (lw_at lw_m1 224 rfl) rfl
theorem q296 : (Jvm.Cond.lays "LevelCellars$Cellar" "LevelCellars$Cellar" "floor" "I") ∈ lw_all := lw_g (lw_at lw_m1 225 rfl) rfl
theorem q297 : (Jvm.Cond.soleField "LevelCellars$Cellar" "floor") ∈ lw_all := lw_g (lw_at lw_m1 226 rfl) rfl
theorem q298 : (Jvm.Cond.lays "LevelCellars$Cellar" "LevelCellars$Cellar" "lip" "I") ∈ lw_all := lw_g (lw_at lw_m1 227 rfl) rfl
theorem q299 : (Jvm.Cond.soleField "LevelCellars$Cellar" "lip") ∈ lw_all := lw_g (lw_at lw_m1 228 rfl) rfl
theorem q300 : (Jvm.Cond.laysFinal "LevelCellars$Cellar" "LevelCellars$Cellar" "wines" "[I") ∈ lw_all := lw_g (lw_at lw_m1 229 rfl) rfl
theorem q301 : (Jvm.Cond.soleField "LevelCellars$Cellar" "wines") ∈ lw_all := lw_g (lw_at lw_m1 230 rfl) rfl
theorem q302 : (Jvm.Cond.laysFinal "LevelCellars$Cellar" "LevelCellars$Cellar" "this$0" "LLevelCellars;") ∈ lw_all := lw_g (lw_at lw_m1 231 rfl) rfl
theorem q303 : (Jvm.Cond.soleField "LevelCellars$Cellar" "this$0") ∈ lw_all := lw_g (lw_at lw_m1 232 rfl) rfl
theorem q304 : (Jvm.Cond.superclass "LevelCellars$Cellar" "java/lang/Object") ∈ lw_all := lw_g (lw_at lw_m1 233 rfl) rfl
theorem q386 : (Jvm.Cond.instanceMethod ({ cls := "LevelCellars$Cellar", name := "kind", desc := "()I" } : Jvm.MethodName)) ∈ lw_all := lw_g (lw_at lw_m2 75 rfl) rfl
theorem q387 : (Jvm.Cond.selects "LevelCellars$Cellar" ({ cls := "LevelCellars$Cellar", name := "kind", desc := "()I" } : Jvm.MethodName) ({ cls := "LevelCellars$Cellar", name := "kind", desc := "()I" } : Jvm.MethodName)) ∈ lw_all := lw_g (lw_at lw_m2 76 rfl) rfl
theorem q388 : (Jvm.Cond.sameMethod "LevelCellars$Cellar" "LevelCellars$Cellar" "kind" "()I") ∈ lw_all := lw_g (lw_at lw_m2 77 rfl) rfl
theorem q409 : (Jvm.Cond.code ({ cls := "LevelCellars$Cellar", name := "kind", desc := "()I" } : Jvm.MethodName) prog_2_method_2_code (1 : Nat) (Option.some Jvm.ClassFile.FieldType.int)) ∈ lw_all := lw_g (lw_at lw_m2 98 rfl) rfl
theorem q411 : (Jvm.Cond.instanceMethod ({ cls := "LevelCellars$Cellar", name := "full", desc := "()I" } : Jvm.MethodName)) ∈ lw_all := lw_g (lw_at lw_m2 100 rfl) rfl
theorem q412 : (Jvm.Cond.selects "LevelCellars$Cellar" ({ cls := "LevelCellars$Cellar", name := "full", desc := "()I" } : Jvm.MethodName) ({ cls := "LevelCellars$Cellar", name := "full", desc := "()I" } : Jvm.MethodName)) ∈ lw_all := lw_g (lw_at lw_m2 101 rfl) rfl
theorem q413 : (Jvm.Cond.sameMethod "LevelCellars$Cellar" "LevelCellars$Cellar" "full" "()I") ∈ lw_all := lw_g (lw_at lw_m2 102 rfl) rfl
theorem q419 : (Jvm.Cond.code ({ cls := "LevelCellars$Cellar", name := "full", desc := "()I" } : Jvm.MethodName) prog_2_method_4_code (1 : Nat) (Option.some Jvm.ClassFile.FieldType.int)) ∈ lw_all := lw_g (lw_at lw_m2 108 rfl) rfl
theorem q421 : (Jvm.Cond.instanceMethod ({ cls := "LevelCellars$Cellar", name := "high", desc := "()I" } : Jvm.MethodName)) ∈ lw_all := lw_g (lw_at lw_m2 110 rfl) rfl
theorem q422 : (Jvm.Cond.selects "LevelCellars$Cellar" ({ cls := "LevelCellars$Cellar", name := "high", desc := "()I" } : Jvm.MethodName) ({ cls := "LevelCellars$Cellar", name := "high", desc := "()I" } : Jvm.MethodName)) ∈ lw_all := lw_g (lw_at lw_m2 111 rfl) rfl
theorem q423 : (Jvm.Cond.sameMethod "LevelCellars$Cellar" "LevelCellars$Cellar" "high" "()I") ∈ lw_all := lw_g (lw_at lw_m2 112 rfl) rfl
theorem q430 : (Jvm.Cond.declares ({ cls := "LevelCellars$Cellar", name := "full", desc := "()I" } : Jvm.MethodName)) ∈ lw_tbl := lw_at lw_m2 119 rfl
theorem q451 : (Jvm.Cond.code ({ cls := "LevelCellars$Cellar", name := "high", desc := "()I" } : Jvm.MethodName) prog_2_method_5_code (1 : Nat) (Option.some Jvm.ClassFile.FieldType.int)) ∈ lw_all := lw_g (lw_at lw_m2 140 rfl) rfl
theorem q452 : (Jvm.Cond.methodLink "LevelCellars$Cellar" (35 : Nat) ({ cls := "LevelCellars$Cellar", name := "full", desc := "()I" } : Jvm.MethodName)) ∈ lw_all := lw_g (lw_at lw_m2 141 rfl) rfl
theorem q453 : (Jvm.Cond.methodLinkNest "LevelCellars$Cellar" (39 : Nat) ({ cls := "LevelCellars", name := "ruled", desc := "(II)I" } : Jvm.MethodName) "LevelCellars") ∈ lw_tbl := lw_at lw_m2 142 rfl
theorem q496 : (Jvm.Cond.methodLinkNest "LevelCellars$Cellar" (43 : Nat) ({ cls := "LevelCellars", name := "heldIn", desc := "(III)I" } : Jvm.MethodName) "LevelCellars") ∈ lw_tbl := lw_at lw_m2 185 rfl
theorem q504 : (Jvm.Cond.instanceMethod ({ cls := "LevelCellars$Cellar", name := "level", desc := "()I" } : Jvm.MethodName)) ∈ lw_all := lw_g (lw_at lw_m2 193 rfl) rfl
theorem q505 : (Jvm.Cond.selects "LevelCellars$Cellar" ({ cls := "LevelCellars$Cellar", name := "level", desc := "()I" } : Jvm.MethodName) ({ cls := "LevelCellars$Cellar", name := "level", desc := "()I" } : Jvm.MethodName)) ∈ lw_all := lw_g (lw_at lw_m2 194 rfl) rfl
theorem q506 : (Jvm.Cond.sameMethod "LevelCellars$Cellar" "LevelCellars$Cellar" "level" "()I") ∈ lw_all := lw_g (lw_at lw_m2 195 rfl) rfl
theorem q512 : (Jvm.Cond.code ({ cls := "LevelCellars$Cellar", name := "level", desc := "()I" } : Jvm.MethodName) prog_2_method_6_code (1 : Nat) (Option.some Jvm.ClassFile.FieldType.int)) ∈ lw_all := lw_g (lw_at lw_m2 201 rfl) rfl
theorem q514 : (Jvm.Cond.unhidden "LevelCellars$Cellar" "above" "(I)I") ∈ lw_tbl := lw_at lw_m2 203 rfl
theorem q527 : (Jvm.Cond.castable "LevelCellars$Cellar" "LevelCellars$Stands") ∈ lw_tbl := lw_at lw_m2 216 rfl
theorem q528 : (Jvm.Cond.selects "LevelCellars$Cellar" ({ cls := "LevelCellars$Stands", name := "high", desc := "()I" } : Jvm.MethodName) ({ cls := "LevelCellars$Cellar", name := "high", desc := "()I" } : Jvm.MethodName)) ∈ lw_all := lw_g (lw_at lw_m2 217 rfl) rfl
theorem q529 : (Jvm.Cond.unhidden "LevelCellars$Cellar" "high" "()I") ∈ lw_tbl := lw_at lw_m2 218 rfl
theorem q530 : (Jvm.Cond.publicMethod ({ cls := "LevelCellars$Cellar", name := "high", desc := "()I" } : Jvm.MethodName)) ∈ lw_tbl := lw_at lw_m2 219 rfl
theorem q551 : (Jvm.Cond.instanceMethod ({ cls := "LevelCellars$Cellar", name := "loses", desc := "()I" } : Jvm.MethodName)) ∈ lw_all := lw_g (lw_at lw_m3 0 rfl) rfl
theorem q552 : (Jvm.Cond.selects "LevelCellars$Cellar" ({ cls := "LevelCellars$Cellar", name := "loses", desc := "()I" } : Jvm.MethodName) ({ cls := "LevelCellars$Cellar", name := "loses", desc := "()I" } : Jvm.MethodName)) ∈ lw_all := lw_g (lw_at lw_m3 1 rfl) rfl
theorem q553 : (Jvm.Cond.sameMethod "LevelCellars$Cellar" "LevelCellars$Cellar" "loses" "()I") ∈ lw_all := lw_g (lw_at lw_m3 2 rfl) rfl
theorem q565 : (Jvm.Cond.code ({ cls := "LevelCellars$Cellar", name := "loses", desc := "()I" } : Jvm.MethodName) prog_2_method_7_code (1 : Nat) (Option.some Jvm.ClassFile.FieldType.int)) ∈ lw_all := lw_g (lw_at lw_m3 14 rfl) rfl
theorem q567 : (Jvm.Cond.instanceMethod ({ cls := "LevelCellars$Cellar", name := "worth", desc := "()I" } : Jvm.MethodName)) ∈ lw_all := lw_g (lw_at lw_m3 16 rfl) rfl
theorem q568 : (Jvm.Cond.selects "LevelCellars$Cellar" ({ cls := "LevelCellars$Cellar", name := "worth", desc := "()I" } : Jvm.MethodName) ({ cls := "LevelCellars$Cellar", name := "worth", desc := "()I" } : Jvm.MethodName)) ∈ lw_all := lw_g (lw_at lw_m3 17 rfl) rfl
theorem q569 : (Jvm.Cond.sameMethod "LevelCellars$Cellar" "LevelCellars$Cellar" "worth" "()I") ∈ lw_all := lw_g (lw_at lw_m3 18 rfl) rfl
theorem q589 : (Jvm.Cond.code ({ cls := "LevelCellars$Cellar", name := "worth", desc := "()I" } : Jvm.MethodName) prog_2_method_9_code (1 : Nat) (Option.some Jvm.ClassFile.FieldType.int)) ∈ lw_all := lw_g (lw_at lw_m3 38 rfl) rfl
theorem q596 : (Jvm.Cond.instanceMethod ({ cls := "LevelCellars$Cellar", name := "takes", desc := "(I)I" } : Jvm.MethodName)) ∈ lw_all := lw_g (lw_at lw_m3 45 rfl) rfl
theorem q597 : (Jvm.Cond.selects "LevelCellars$Cellar" ({ cls := "LevelCellars$Cellar", name := "takes", desc := "(I)I" } : Jvm.MethodName) ({ cls := "LevelCellars$Cellar", name := "takes", desc := "(I)I" } : Jvm.MethodName)) ∈ lw_all := lw_g (lw_at lw_m3 46 rfl) rfl
theorem q598 : (Jvm.Cond.sameMethod "LevelCellars$Cellar" "LevelCellars$Cellar" "takes" "(I)I") ∈ lw_all := lw_g (lw_at lw_m3 47 rfl) rfl
theorem q610 : (Jvm.Cond.declares ({ cls := "LevelCellars$Cellar", name := "takes", desc := "(I)I" } : Jvm.MethodName)) ∈ lw_tbl := lw_at lw_m3 59 rfl
theorem q611 : (Jvm.Cond.code ({ cls := "LevelCellars$Cellar", name := "takes", desc := "(I)I" } : Jvm.MethodName) prog_2_method_8_code (2 : Nat) (Option.some Jvm.ClassFile.FieldType.int)) ∈ lw_all := lw_g (lw_at lw_m3 60 rfl) rfl
theorem q712 : (Jvm.Cond.instanceMethod ({ cls := "LevelCellars$Cellar", name := "like", desc := "(LLevelCellars$Cellar;)LLevelCellars$Cellar;" } : Jvm.MethodName)) ∈ lw_all := lw_g (lw_at lw_m3 161 rfl) rfl
theorem q713 : (Jvm.Cond.selects "LevelCellars$Cellar" ({ cls := "LevelCellars$Cellar", name := "like", desc := "(LLevelCellars$Cellar;)LLevelCellars$Cellar;" } : Jvm.MethodName) ({ cls := "LevelCellars$Cellar", name := "like", desc := "(LLevelCellars$Cellar;)LLevelCellars$Cellar;" } : Jvm.MethodName)) ∈ lw_all := lw_g (lw_at lw_m3 162 rfl) rfl
theorem q714 : (Jvm.Cond.sameMethod "LevelCellars$Cellar" "LevelCellars$Cellar" "like" "(LLevelCellars$Cellar;)LLevelCellars$Cellar;") ∈ lw_all := lw_g (lw_at lw_m3 163 rfl) rfl
theorem q720 : (Jvm.Cond.code ({ cls := "LevelCellars$Cellar", name := "like", desc := "(LLevelCellars$Cellar;)LLevelCellars$Cellar;" } : Jvm.MethodName) prog_2_method_3_code (2 : Nat) (Option.some (Jvm.ClassFile.FieldType.object "LevelCellars$Cellar"))) ∈ lw_all := lw_g (lw_at lw_m3 169 rfl) rfl
theorem q721 : (Jvm.Cond.methodLink "LevelCellars$Cellar" (26 : Nat) ({ cls := "java/lang/System", name := "arraycopy", desc := "(Ljava/lang/Object;ILjava/lang/Object;II)V" } : Jvm.MethodName)) ∈ lw_all := lw_g (lw_at lw_m3 170 rfl) rfl
theorem q894 : (Jvm.Cond.instanceMethod ({ cls := "LevelCellars$Cellar", name := "empties", desc := "()V" } : Jvm.MethodName)) ∈ lw_all := lw_g (lw_at lw_m4 103 rfl) rfl
theorem q895 : (Jvm.Cond.selects "LevelCellars$Cellar" ({ cls := "LevelCellars$Cellar", name := "empties", desc := "()V" } : Jvm.MethodName) ({ cls := "LevelCellars$Cellar", name := "empties", desc := "()V" } : Jvm.MethodName)) ∈ lw_all := lw_g (lw_at lw_m4 104 rfl) rfl
theorem q896 : (Jvm.Cond.sameMethod "LevelCellars$Cellar" "LevelCellars$Cellar" "empties" "()V") ∈ lw_all := lw_g (lw_at lw_m4 105 rfl) rfl
theorem q902 : (Jvm.Cond.code ({ cls := "LevelCellars$Cellar", name := "empties", desc := "()V" } : Jvm.MethodName) prog_2_method_10_code (2 : Nat) (Option.none : Option Jvm.ClassFile.FieldType)) ∈ lw_all := lw_g (lw_at lw_m4 111 rfl) rfl
theorem q1300 : (Jvm.Cond.castable "LevelCellars$Cellar" "LevelCellars$Weighs") ∈ lw_tbl := lw_at lw_m6 29 rfl
theorem q1301 : (Jvm.Cond.selects "LevelCellars$Cellar" ({ cls := "LevelCellars$Weighs", name := "worth", desc := "()I" } : Jvm.MethodName) ({ cls := "LevelCellars$Cellar", name := "worth", desc := "()I" } : Jvm.MethodName)) ∈ lw_all := lw_g (lw_at lw_m6 30 rfl) rfl
theorem q1302 : (Jvm.Cond.unhidden "LevelCellars$Cellar" "worth" "()I") ∈ lw_tbl := lw_at lw_m6 31 rfl
theorem q1303 : (Jvm.Cond.publicMethod ({ cls := "LevelCellars$Cellar", name := "worth", desc := "()I" } : Jvm.MethodName)) ∈ lw_tbl := lw_at lw_m6 32 rfl
theorem in_X4 : ∀ w ∈ wsX40, w ∈ lw_all := lw_in wsX40 [296, 298, 300, 302] (by decide +kernel) (by decide +kernel)
/-! LevelCellars$Deep -/
set_option maxRecDepth 100000
def RX5 : String := "LevelCellars$Deep"
def TX5 : u_T := fun k => match k with
  | 0 => ("LevelCellars$Cellar", "floor", "I", false)
  | 1 => ("LevelCellars$Cellar", "lip", "I", false)
  | 2 => ("LevelCellars$Cellar", "wines", "[I", true)
  | 3 => ("LevelCellars$Cellar", "this$0", "LLevelCellars;", true)
  | _ => ("LevelCellars$Deep", "this$0", "LLevelCellars;", true)
def tyX5 : Nat → FieldType := fun k => match k with
  | 0 => .int
  | 1 => .int
  | 2 => .array .int
  | 3 => .object "LevelCellars"
  | _ => .object "LevelCellars"
abbrev wsX50 : List Cond := u_ws RX5 TX5 5
-- two fields of one name: no nmX5
theorem tyX5_ok : ∀ k, k < 5 → parseFieldDescriptor (TX5 k).2.2.1 = some (tyX5 k) := by decide +kernel
abbrev cX5_init : ByteArray := prog_4_method_1_code
def yX5_init : MethodName := ⟨RX5, "<init>", "(LLevelCellars;)V"⟩
def dkwX5_init_0 : List UInt8 := [42, 43, 181, 0, 1, 42, 43, 183, 0, 7, 177]
abbrev dktX5_init_0 : List UInt8 := dkwX5_init_0 ++ []
theorem dksX5_init_0 : cX5_init.data.toList.drop 0 = dktX5_init_0 := by decide +kernel
theorem dX5_init_0 : decode cX5_init 0 = .ok (.aload_n 0, 1) := dk_42 (dk_at dksX5_init_0 0 rfl rfl)
theorem dX5_init_1 : decode cX5_init 1 = .ok (.aload_n 1, 1) := dk_43 (dk_at dksX5_init_0 1 rfl rfl)
theorem dX5_init_2 : decode cX5_init 2 = .ok (.putfield 1, 3) := dk_181 0 1 (dk_at dksX5_init_0 2 rfl rfl)
theorem dX5_init_5 : decode cX5_init 5 = .ok (.aload_n 0, 1) := dk_42 (dk_at dksX5_init_0 5 rfl rfl)
theorem dX5_init_6 : decode cX5_init 6 = .ok (.aload_n 1, 1) := dk_43 (dk_at dksX5_init_0 6 rfl rfl)
theorem dX5_init_7 : decode cX5_init 7 = .ok (.invokespecial 7, 3) := dk_183 0 7 (dk_at dksX5_init_0 7 rfl rfl)
theorem dX5_init_10 : decode cX5_init 10 = .ok (.return_, 1) := dk_177 (dk_at dksX5_init_0 10 rfl rfl)
abbrev cX5_kind : ByteArray := prog_4_method_2_code
def yX5_kind : MethodName := ⟨RX5, "kind", "()I"⟩
def dkwX5_kind_0 : List UInt8 := [42, 183, 0, 13, 4, 96, 172]
abbrev dktX5_kind_0 : List UInt8 := dkwX5_kind_0 ++ []
theorem dksX5_kind_0 : cX5_kind.data.toList.drop 0 = dktX5_kind_0 := by decide +kernel
theorem dX5_kind_0 : decode cX5_kind 0 = .ok (.aload_n 0, 1) := dk_42 (dk_at dksX5_kind_0 0 rfl rfl)
theorem dX5_kind_1 : decode cX5_kind 1 = .ok (.invokespecial 13, 3) := dk_183 0 13 (dk_at dksX5_kind_0 1 rfl rfl)
theorem dX5_kind_4 : decode cX5_kind 4 = .ok (.iconst 1, 1) := dk_4 (dk_at dksX5_kind_0 4 rfl rfl)
theorem dX5_kind_5 : decode cX5_kind 5 = .ok (.iadd, 1) := dk_96 (dk_at dksX5_kind_0 5 rfl rfl)
theorem dX5_kind_6 : decode cX5_kind 6 = .ok (.ireturn, 1) := dk_172 (dk_at dksX5_kind_0 6 rfl rfl)
abbrev cX5_high : ByteArray := prog_4_method_3_code
def yX5_high : MethodName := ⟨RX5, "high", "()I"⟩
def dkwX5_high_0 : List UInt8 := [42, 183, 0, 17, 5, 108, 172]
abbrev dktX5_high_0 : List UInt8 := dkwX5_high_0 ++ []
theorem dksX5_high_0 : cX5_high.data.toList.drop 0 = dktX5_high_0 := by decide +kernel
theorem dX5_high_0 : decode cX5_high 0 = .ok (.aload_n 0, 1) := dk_42 (dk_at dksX5_high_0 0 rfl rfl)
theorem dX5_high_1 : decode cX5_high 1 = .ok (.invokespecial 17, 3) := dk_183 0 17 (dk_at dksX5_high_0 1 rfl rfl)
theorem dX5_high_4 : decode cX5_high 4 = .ok (.iconst 2, 1) := dk_5 (dk_at dksX5_high_0 4 rfl rfl)
theorem dX5_high_5 : decode cX5_high 5 = .ok (.idiv, 1) := dk_108 (dk_at dksX5_high_0 5 rfl rfl)
theorem dX5_high_6 : decode cX5_high 6 = .ok (.ireturn, 1) := dk_172 (dk_at dksX5_high_0 6 rfl rfl)
abbrev cX5_worth : ByteArray := prog_4_method_4_code
def yX5_worth : MethodName := ⟨RX5, "worth", "()I"⟩
def dkwX5_worth_0 : List UInt8 := [42, 183, 0, 20, 16, 6, 96, 172]
abbrev dktX5_worth_0 : List UInt8 := dkwX5_worth_0 ++ []
theorem dksX5_worth_0 : cX5_worth.data.toList.drop 0 = dktX5_worth_0 := by decide +kernel
theorem dX5_worth_0 : decode cX5_worth 0 = .ok (.aload_n 0, 1) := dk_42 (dk_at dksX5_worth_0 0 rfl rfl)
theorem dX5_worth_1 : decode cX5_worth 1 = .ok (.invokespecial 20, 3) := dk_183 0 20 (dk_at dksX5_worth_0 1 rfl rfl)
theorem dX5_worth_4 : decode cX5_worth 4 = .ok (.bipush 6, 2) := dk_16 6 (dk_at dksX5_worth_0 4 rfl rfl)
theorem dX5_worth_6 : decode cX5_worth 6 = .ok (.iadd, 1) := dk_96 (dk_at dksX5_worth_0 6 rfl rfl)
theorem dX5_worth_7 : decode cX5_worth 7 = .ok (.ireturn, 1) := dk_172 (dk_at dksX5_worth_0 7 rfl rfl)
theorem q77 : (Jvm.Cond.initialized "LevelCellars$Deep") ∈ lw_all := lw_g (lw_at lw_m1 6 rfl) rfl
theorem q306 : (Jvm.Cond.instantiable "LevelCellars$Deep" (5 : Nat)) ∈ lw_all := lw_g (lw_at lw_m1 235 rfl) rfl
theorem q308 : (Jvm.Cond.instanceMethod ({ cls := "LevelCellars$Deep", name := "<init>", desc := "(LLevelCellars;)V" } : Jvm.MethodName)) ∈ lw_all := lw_g (lw_at lw_m1 237 rfl) rfl
theorem q309 : (Jvm.Cond.code ({ cls := "LevelCellars$Deep", name := "<init>", desc := "(LLevelCellars;)V" } : Jvm.MethodName) prog_4_method_1_code (2 : Nat) (Option.none : Option Jvm.ClassFile.FieldType)) ∈ lw_all := lw_g (lw_at lw_m1 238 rfl) rfl
theorem q310 : (Jvm.Cond.methodLinkNest "LevelCellars$Deep" (7 : Nat) ({ cls := "LevelCellars$Cellar", name := "<init>", desc := "(LLevelCellars;)V" } : Jvm.MethodName) "LevelCellars") ∈ lw_tbl := lw_at lw_m1 239 rfl
theorem q311 : (Jvm.Cond.fieldLink "LevelCellars$Deep" (1 : Nat) "LevelCellars$Deep" "this$0" "LLevelCellars;") ∈ lw_all := lw_g (lw_at lw_m2 0 rfl) rfl
theorem q312 : (Jvm.Cond.laysFinal "LevelCellars$Deep" "LevelCellars$Deep" "this$0" "LLevelCellars;") ∈ lw_all := lw_g (lw_at lw_m2 1 rfl) rfl
theorem q313 : (Jvm.Cond.soleField "LevelCellars$Deep" "this$0") ∈ lw_all := lw_g (lw_at lw_m2 2 rfl) rfl
theorem q314 : (Jvm.Cond.lays "LevelCellars$Deep" "LevelCellars$Cellar" "floor" "I") ∈ lw_all := lw_g (lw_at lw_m2 3 rfl) rfl
theorem q315 : (Jvm.Cond.lays "LevelCellars$Deep" "LevelCellars$Cellar" "lip" "I") ∈ lw_all := lw_g (lw_at lw_m2 4 rfl) rfl
theorem q316 : (Jvm.Cond.laysFinal "LevelCellars$Deep" "LevelCellars$Cellar" "wines" "[I") ∈ lw_all := lw_g (lw_at lw_m2 5 rfl) rfl
theorem q317 : (Jvm.Cond.laysFinal "LevelCellars$Deep" "LevelCellars$Cellar" "this$0" "LLevelCellars;") ∈ lw_all := lw_g (lw_at lw_m2 6 rfl) rfl
theorem q318 : (Jvm.Cond.superclass "LevelCellars$Deep" "LevelCellars$Cellar") ∈ lw_all := lw_g (lw_at lw_m2 7 rfl) rfl
theorem q396 : (Jvm.Cond.selects "LevelCellars$Deep" ({ cls := "LevelCellars$Cellar", name := "kind", desc := "()I" } : Jvm.MethodName) ({ cls := "LevelCellars$Deep", name := "kind", desc := "()I" } : Jvm.MethodName)) ∈ lw_all := lw_g (lw_at lw_m2 85 rfl) rfl
theorem q397 : (Jvm.Cond.instanceMethod ({ cls := "LevelCellars$Deep", name := "kind", desc := "()I" } : Jvm.MethodName)) ∈ lw_all := lw_g (lw_at lw_m2 86 rfl) rfl
theorem q398 : (Jvm.Cond.code ({ cls := "LevelCellars$Deep", name := "kind", desc := "()I" } : Jvm.MethodName) prog_4_method_2_code (1 : Nat) (Option.some Jvm.ClassFile.FieldType.int)) ∈ lw_all := lw_g (lw_at lw_m2 87 rfl) rfl
theorem q399 : (Jvm.Cond.methodLink "LevelCellars$Deep" (13 : Nat) ({ cls := "LevelCellars$Cellar", name := "kind", desc := "()I" } : Jvm.MethodName)) ∈ lw_all := lw_g (lw_at lw_m2 88 rfl) rfl
theorem q415 : (Jvm.Cond.selects "LevelCellars$Deep" ({ cls := "LevelCellars$Cellar", name := "full", desc := "()I" } : Jvm.MethodName) ({ cls := "LevelCellars$Cellar", name := "full", desc := "()I" } : Jvm.MethodName)) ∈ lw_all := lw_g (lw_at lw_m2 104 rfl) rfl
theorem q436 : (Jvm.Cond.selects "LevelCellars$Deep" ({ cls := "LevelCellars$Cellar", name := "high", desc := "()I" } : Jvm.MethodName) ({ cls := "LevelCellars$Deep", name := "high", desc := "()I" } : Jvm.MethodName)) ∈ lw_all := lw_g (lw_at lw_m2 125 rfl) rfl
theorem q437 : (Jvm.Cond.instanceMethod ({ cls := "LevelCellars$Deep", name := "high", desc := "()I" } : Jvm.MethodName)) ∈ lw_all := lw_g (lw_at lw_m2 126 rfl) rfl
theorem q438 : (Jvm.Cond.code ({ cls := "LevelCellars$Deep", name := "high", desc := "()I" } : Jvm.MethodName) prog_4_method_3_code (1 : Nat) (Option.some Jvm.ClassFile.FieldType.int)) ∈ lw_all := lw_g (lw_at lw_m2 127 rfl) rfl
theorem q439 : (Jvm.Cond.methodLink "LevelCellars$Deep" (17 : Nat) ({ cls := "LevelCellars$Cellar", name := "high", desc := "()I" } : Jvm.MethodName)) ∈ lw_all := lw_g (lw_at lw_m2 128 rfl) rfl
theorem q508 : (Jvm.Cond.selects "LevelCellars$Deep" ({ cls := "LevelCellars$Cellar", name := "level", desc := "()I" } : Jvm.MethodName) ({ cls := "LevelCellars$Cellar", name := "level", desc := "()I" } : Jvm.MethodName)) ∈ lw_all := lw_g (lw_at lw_m2 197 rfl) rfl
theorem q516 : (Jvm.Cond.unhidden "LevelCellars$Deep" "above" "(I)I") ∈ lw_tbl := lw_at lw_m2 205 rfl
theorem q535 : (Jvm.Cond.castable "LevelCellars$Deep" "LevelCellars$Stands") ∈ lw_tbl := lw_at lw_m2 224 rfl
theorem q536 : (Jvm.Cond.selects "LevelCellars$Deep" ({ cls := "LevelCellars$Stands", name := "high", desc := "()I" } : Jvm.MethodName) ({ cls := "LevelCellars$Deep", name := "high", desc := "()I" } : Jvm.MethodName)) ∈ lw_all := lw_g (lw_at lw_m2 225 rfl) rfl
theorem q537 : (Jvm.Cond.unhidden "LevelCellars$Deep" "high" "()I") ∈ lw_tbl := lw_at lw_m2 226 rfl
theorem q538 : (Jvm.Cond.publicMethod ({ cls := "LevelCellars$Deep", name := "high", desc := "()I" } : Jvm.MethodName)) ∈ lw_tbl := lw_at lw_m2 227 rfl
theorem q561 : (Jvm.Cond.selects "LevelCellars$Deep" ({ cls := "LevelCellars$Cellar", name := "loses", desc := "()I" } : Jvm.MethodName) ({ cls := "LevelCellars$Cellar", name := "loses", desc := "()I" } : Jvm.MethodName)) ∈ lw_all := lw_g (lw_at lw_m3 10 rfl) rfl
theorem q577 : (Jvm.Cond.selects "LevelCellars$Deep" ({ cls := "LevelCellars$Cellar", name := "worth", desc := "()I" } : Jvm.MethodName) ({ cls := "LevelCellars$Deep", name := "worth", desc := "()I" } : Jvm.MethodName)) ∈ lw_all := lw_g (lw_at lw_m3 26 rfl) rfl
theorem q578 : (Jvm.Cond.instanceMethod ({ cls := "LevelCellars$Deep", name := "worth", desc := "()I" } : Jvm.MethodName)) ∈ lw_all := lw_g (lw_at lw_m3 27 rfl) rfl
theorem q579 : (Jvm.Cond.code ({ cls := "LevelCellars$Deep", name := "worth", desc := "()I" } : Jvm.MethodName) prog_4_method_4_code (1 : Nat) (Option.some Jvm.ClassFile.FieldType.int)) ∈ lw_all := lw_g (lw_at lw_m3 28 rfl) rfl
theorem q580 : (Jvm.Cond.methodLink "LevelCellars$Deep" (20 : Nat) ({ cls := "LevelCellars$Cellar", name := "worth", desc := "()I" } : Jvm.MethodName)) ∈ lw_all := lw_g (lw_at lw_m3 29 rfl) rfl
theorem q600 : (Jvm.Cond.selects "LevelCellars$Deep" ({ cls := "LevelCellars$Cellar", name := "takes", desc := "(I)I" } : Jvm.MethodName) ({ cls := "LevelCellars$Cellar", name := "takes", desc := "(I)I" } : Jvm.MethodName)) ∈ lw_all := lw_g (lw_at lw_m3 49 rfl) rfl
theorem q609 : (Jvm.Cond.sameMethod "LevelCellars$Deep" "LevelCellars$Cellar" "takes" "(I)I") ∈ lw_all := lw_g (lw_at lw_m3 58 rfl) rfl
theorem q716 : (Jvm.Cond.selects "LevelCellars$Deep" ({ cls := "LevelCellars$Cellar", name := "like", desc := "(LLevelCellars$Cellar;)LLevelCellars$Cellar;" } : Jvm.MethodName) ({ cls := "LevelCellars$Cellar", name := "like", desc := "(LLevelCellars$Cellar;)LLevelCellars$Cellar;" } : Jvm.MethodName)) ∈ lw_all := lw_g (lw_at lw_m3 165 rfl) rfl
theorem q898 : (Jvm.Cond.selects "LevelCellars$Deep" ({ cls := "LevelCellars$Cellar", name := "empties", desc := "()V" } : Jvm.MethodName) ({ cls := "LevelCellars$Cellar", name := "empties", desc := "()V" } : Jvm.MethodName)) ∈ lw_all := lw_g (lw_at lw_m4 107 rfl) rfl
theorem q1308 : (Jvm.Cond.castable "LevelCellars$Deep" "LevelCellars$Weighs") ∈ lw_tbl := lw_at lw_m6 37 rfl
theorem q1309 : (Jvm.Cond.selects "LevelCellars$Deep" ({ cls := "LevelCellars$Weighs", name := "worth", desc := "()I" } : Jvm.MethodName) ({ cls := "LevelCellars$Deep", name := "worth", desc := "()I" } : Jvm.MethodName)) ∈ lw_all := lw_g (lw_at lw_m6 38 rfl) rfl
theorem q1310 : (Jvm.Cond.unhidden "LevelCellars$Deep" "worth" "()I") ∈ lw_tbl := lw_at lw_m6 39 rfl
theorem q1311 : (Jvm.Cond.publicMethod ({ cls := "LevelCellars$Deep", name := "worth", desc := "()I" } : Jvm.MethodName)) ∈ lw_tbl := lw_at lw_m6 40 rfl
theorem q1864 : (Jvm.Cond.sameMethod "LevelCellars$Deep" "LevelCellars$Deep" "kind" "()I") ∈ lw_all := lw_g (lw_at lw_m8 113 rfl) rfl
theorem q1865 : (Jvm.Cond.sameMethod "LevelCellars$Deep" "LevelCellars$Deep" "high" "()I") ∈ lw_all := lw_g (lw_at lw_m8 114 rfl) rfl
theorem q1868 : (Jvm.Cond.sameMethod "LevelCellars$Deep" "LevelCellars$Deep" "worth" "()I") ∈ lw_all := lw_g (lw_at lw_m8 117 rfl) rfl
theorem q1872 : (Jvm.Cond.castable "LevelCellars$Deep" "LevelCellars$Cellar") ∈ lw_tbl := lw_at lw_m8 121 rfl
theorem in_X5 : ∀ w ∈ wsX50, w ∈ lw_all := lw_in wsX50 [314, 315, 316, 317, 312] (by decide +kernel) (by decide +kernel)
/-! LevelCellars$Leaky -/
set_option maxRecDepth 100000
def RX6 : String := "LevelCellars$Leaky"
def TX6 : u_T := fun k => match k with
  | 0 => ("LevelCellars$Cellar", "floor", "I", false)
  | 1 => ("LevelCellars$Cellar", "lip", "I", false)
  | 2 => ("LevelCellars$Cellar", "wines", "[I", true)
  | 3 => ("LevelCellars$Cellar", "this$0", "LLevelCellars;", true)
  | _ => ("LevelCellars$Leaky", "this$0", "LLevelCellars;", true)
def tyX6 : Nat → FieldType := fun k => match k with
  | 0 => .int
  | 1 => .int
  | 2 => .array .int
  | 3 => .object "LevelCellars"
  | _ => .object "LevelCellars"
abbrev wsX60 : List Cond := u_ws RX6 TX6 5
-- two fields of one name: no nmX6
theorem tyX6_ok : ∀ k, k < 5 → parseFieldDescriptor (TX6 k).2.2.1 = some (tyX6 k) := by decide +kernel
abbrev cX6_init : ByteArray := prog_9_method_1_code
def yX6_init : MethodName := ⟨RX6, "<init>", "(LLevelCellars;)V"⟩
def dkwX6_init_0 : List UInt8 := [42, 43, 181, 0, 3, 42, 43, 183, 0, 9, 177]
abbrev dktX6_init_0 : List UInt8 := dkwX6_init_0 ++ []
theorem dksX6_init_0 : cX6_init.data.toList.drop 0 = dktX6_init_0 := by decide +kernel
theorem dX6_init_0 : decode cX6_init 0 = .ok (.aload_n 0, 1) := dk_42 (dk_at dksX6_init_0 0 rfl rfl)
theorem dX6_init_1 : decode cX6_init 1 = .ok (.aload_n 1, 1) := dk_43 (dk_at dksX6_init_0 1 rfl rfl)
theorem dX6_init_2 : decode cX6_init 2 = .ok (.putfield 3, 3) := dk_181 0 3 (dk_at dksX6_init_0 2 rfl rfl)
theorem dX6_init_5 : decode cX6_init 5 = .ok (.aload_n 0, 1) := dk_42 (dk_at dksX6_init_0 5 rfl rfl)
theorem dX6_init_6 : decode cX6_init 6 = .ok (.aload_n 1, 1) := dk_43 (dk_at dksX6_init_0 6 rfl rfl)
theorem dX6_init_7 : decode cX6_init 7 = .ok (.invokespecial 9, 3) := dk_183 0 9 (dk_at dksX6_init_0 7 rfl rfl)
theorem dX6_init_10 : decode cX6_init 10 = .ok (.return_, 1) := dk_177 (dk_at dksX6_init_0 10 rfl rfl)
abbrev cX6_kind : ByteArray := prog_9_method_2_code
def yX6_kind : MethodName := ⟨RX6, "kind", "()I"⟩
def dkwX6_kind_0 : List UInt8 := [42, 183, 0, 15, 5, 96, 172]
abbrev dktX6_kind_0 : List UInt8 := dkwX6_kind_0 ++ []
theorem dksX6_kind_0 : cX6_kind.data.toList.drop 0 = dktX6_kind_0 := by decide +kernel
theorem dX6_kind_0 : decode cX6_kind 0 = .ok (.aload_n 0, 1) := dk_42 (dk_at dksX6_kind_0 0 rfl rfl)
theorem dX6_kind_1 : decode cX6_kind 1 = .ok (.invokespecial 15, 3) := dk_183 0 15 (dk_at dksX6_kind_0 1 rfl rfl)
theorem dX6_kind_4 : decode cX6_kind 4 = .ok (.iconst 2, 1) := dk_5 (dk_at dksX6_kind_0 4 rfl rfl)
theorem dX6_kind_5 : decode cX6_kind 5 = .ok (.iadd, 1) := dk_96 (dk_at dksX6_kind_0 5 rfl rfl)
theorem dX6_kind_6 : decode cX6_kind 6 = .ok (.ireturn, 1) := dk_172 (dk_at dksX6_kind_0 6 rfl rfl)
abbrev cX6_high : ByteArray := prog_9_method_3_code
def yX6_high : MethodName := ⟨RX6, "high", "()I"⟩
def dkwX6_high_0 : List UInt8 := [42, 183, 0, 19, 42, 182, 0, 22, 158, 0, 7, 4, 167, 0, 4, 3, 184, 0, 25, 96, 172]
abbrev dktX6_high_0 : List UInt8 := dkwX6_high_0 ++ []
theorem dksX6_high_0 : cX6_high.data.toList.drop 0 = dktX6_high_0 := by decide +kernel
theorem dX6_high_0 : decode cX6_high 0 = .ok (.aload_n 0, 1) := dk_42 (dk_at dksX6_high_0 0 rfl rfl)
theorem dX6_high_1 : decode cX6_high 1 = .ok (.invokespecial 19, 3) := dk_183 0 19 (dk_at dksX6_high_0 1 rfl rfl)
theorem dX6_high_4 : decode cX6_high 4 = .ok (.aload_n 0, 1) := dk_42 (dk_at dksX6_high_0 4 rfl rfl)
theorem dX6_high_5 : decode cX6_high 5 = .ok (.invokevirtual 22, 3) := dk_182 0 22 (dk_at dksX6_high_0 5 rfl rfl)
theorem dX6_high_8 : decode cX6_high 8 = .ok (.ifCond .le 7, 3) := dk_158 0 7 (dk_at dksX6_high_0 8 rfl rfl)
theorem dX6_high_11 : decode cX6_high 11 = .ok (.iconst 1, 1) := dk_4 (dk_at dksX6_high_0 11 rfl rfl)
theorem dX6_high_12 : decode cX6_high 12 = .ok (.goto 4, 3) := dk_167 0 4 (dk_at dksX6_high_0 12 rfl rfl)
theorem dX6_high_15 : decode cX6_high 15 = .ok (.iconst 0, 1) := dk_3 (dk_at dksX6_high_0 15 rfl rfl)
theorem dX6_high_16 : decode cX6_high 16 = .ok (.invokestatic 25, 3) := dk_184 0 25 (dk_at dksX6_high_0 16 rfl rfl)
theorem dX6_high_19 : decode cX6_high 19 = .ok (.iadd, 1) := dk_96 (dk_at dksX6_high_0 19 rfl rfl)
theorem dX6_high_20 : decode cX6_high 20 = .ok (.ireturn, 1) := dk_172 (dk_at dksX6_high_0 20 rfl rfl)
abbrev cX6_loses : ByteArray := prog_9_method_4_code
def yX6_loses : MethodName := ⟨RX6, "loses", "()I"⟩
def dkwX6_loses_0 : List UInt8 := [42, 182, 0, 22, 16, 20, 108, 172]
abbrev dktX6_loses_0 : List UInt8 := dkwX6_loses_0 ++ []
theorem dksX6_loses_0 : cX6_loses.data.toList.drop 0 = dktX6_loses_0 := by decide +kernel
theorem dX6_loses_0 : decode cX6_loses 0 = .ok (.aload_n 0, 1) := dk_42 (dk_at dksX6_loses_0 0 rfl rfl)
theorem dX6_loses_1 : decode cX6_loses 1 = .ok (.invokevirtual 22, 3) := dk_182 0 22 (dk_at dksX6_loses_0 1 rfl rfl)
theorem dX6_loses_4 : decode cX6_loses 4 = .ok (.bipush 20, 2) := dk_16 20 (dk_at dksX6_loses_0 4 rfl rfl)
theorem dX6_loses_6 : decode cX6_loses 6 = .ok (.idiv, 1) := dk_108 (dk_at dksX6_loses_0 6 rfl rfl)
theorem dX6_loses_7 : decode cX6_loses 7 = .ok (.ireturn, 1) := dk_172 (dk_at dksX6_loses_0 7 rfl rfl)
abbrev cX6_worth : ByteArray := prog_9_method_5_code
def yX6_worth : MethodName := ⟨RX6, "worth", "()I"⟩
def dkwX6_worth_0 : List UInt8 := [16, 99, 42, 183, 0, 29, 100, 172]
abbrev dktX6_worth_0 : List UInt8 := dkwX6_worth_0 ++ []
theorem dksX6_worth_0 : cX6_worth.data.toList.drop 0 = dktX6_worth_0 := by decide +kernel
theorem dX6_worth_0 : decode cX6_worth 0 = .ok (.bipush 99, 2) := dk_16 99 (dk_at dksX6_worth_0 0 rfl rfl)
theorem dX6_worth_2 : decode cX6_worth 2 = .ok (.aload_n 0, 1) := dk_42 (dk_at dksX6_worth_0 2 rfl rfl)
theorem dX6_worth_3 : decode cX6_worth 3 = .ok (.invokespecial 29, 3) := dk_183 0 29 (dk_at dksX6_worth_0 3 rfl rfl)
theorem dX6_worth_6 : decode cX6_worth 6 = .ok (.isub, 1) := dk_100 (dk_at dksX6_worth_0 6 rfl rfl)
theorem dX6_worth_7 : decode cX6_worth 7 = .ok (.ireturn, 1) := dk_172 (dk_at dksX6_worth_0 7 rfl rfl)
theorem q78 : (Jvm.Cond.initialized "LevelCellars$Leaky") ∈ lw_all := lw_g (lw_at lw_m1 7 rfl) rfl
theorem q320 : (Jvm.Cond.instantiable "LevelCellars$Leaky" (5 : Nat)) ∈ lw_all := lw_g (lw_at lw_m2 9 rfl) rfl
theorem q322 : (Jvm.Cond.instanceMethod ({ cls := "LevelCellars$Leaky", name := "<init>", desc := "(LLevelCellars;)V" } : Jvm.MethodName)) ∈ lw_all := lw_g (lw_at lw_m2 11 rfl) rfl
theorem q323 : (Jvm.Cond.code ({ cls := "LevelCellars$Leaky", name := "<init>", desc := "(LLevelCellars;)V" } : Jvm.MethodName) prog_9_method_1_code (2 : Nat) (Option.none : Option Jvm.ClassFile.FieldType)) ∈ lw_all := lw_g (lw_at lw_m2 12 rfl) rfl
theorem q324 : (Jvm.Cond.methodLinkNest "LevelCellars$Leaky" (9 : Nat) ({ cls := "LevelCellars$Cellar", name := "<init>", desc := "(LLevelCellars;)V" } : Jvm.MethodName) "LevelCellars") ∈ lw_tbl := lw_at lw_m2 13 rfl
theorem q325 : (Jvm.Cond.fieldLink "LevelCellars$Leaky" (3 : Nat) "LevelCellars$Leaky" "this$0" "LLevelCellars;") ∈ lw_all := lw_g (lw_at lw_m2 14 rfl) rfl
theorem q326 : (Jvm.Cond.laysFinal "LevelCellars$Leaky" "LevelCellars$Leaky" "this$0" "LLevelCellars;") ∈ lw_all := lw_g (lw_at lw_m2 15 rfl) rfl
theorem q327 : (Jvm.Cond.soleField "LevelCellars$Leaky" "this$0") ∈ lw_all := lw_g (lw_at lw_m2 16 rfl) rfl
theorem q328 : (Jvm.Cond.lays "LevelCellars$Leaky" "LevelCellars$Cellar" "floor" "I") ∈ lw_all := lw_g (lw_at lw_m2 17 rfl) rfl
theorem q329 : (Jvm.Cond.lays "LevelCellars$Leaky" "LevelCellars$Cellar" "lip" "I") ∈ lw_all := lw_g (lw_at lw_m2 18 rfl) rfl
theorem q330 : (Jvm.Cond.laysFinal "LevelCellars$Leaky" "LevelCellars$Cellar" "wines" "[I") ∈ lw_all := lw_g (lw_at lw_m2 19 rfl) rfl
theorem q331 : (Jvm.Cond.laysFinal "LevelCellars$Leaky" "LevelCellars$Cellar" "this$0" "LLevelCellars;") ∈ lw_all := lw_g (lw_at lw_m2 20 rfl) rfl
theorem q332 : (Jvm.Cond.superclass "LevelCellars$Leaky" "LevelCellars$Cellar") ∈ lw_all := lw_g (lw_at lw_m2 21 rfl) rfl
theorem q393 : (Jvm.Cond.instanceMethod ({ cls := "LevelCellars$Leaky", name := "kind", desc := "()I" } : Jvm.MethodName)) ∈ lw_all := lw_g (lw_at lw_m2 82 rfl) rfl
theorem q394 : (Jvm.Cond.code ({ cls := "LevelCellars$Leaky", name := "kind", desc := "()I" } : Jvm.MethodName) prog_9_method_2_code (1 : Nat) (Option.some Jvm.ClassFile.FieldType.int)) ∈ lw_all := lw_g (lw_at lw_m2 83 rfl) rfl
theorem q395 : (Jvm.Cond.methodLink "LevelCellars$Leaky" (15 : Nat) ({ cls := "LevelCellars$Cellar", name := "kind", desc := "()I" } : Jvm.MethodName)) ∈ lw_all := lw_g (lw_at lw_m2 84 rfl) rfl
theorem q400 : (Jvm.Cond.selects "LevelCellars$Leaky" ({ cls := "LevelCellars$Cellar", name := "kind", desc := "()I" } : Jvm.MethodName) ({ cls := "LevelCellars$Leaky", name := "kind", desc := "()I" } : Jvm.MethodName)) ∈ lw_all := lw_g (lw_at lw_m2 89 rfl) rfl
theorem q416 : (Jvm.Cond.selects "LevelCellars$Leaky" ({ cls := "LevelCellars$Cellar", name := "full", desc := "()I" } : Jvm.MethodName) ({ cls := "LevelCellars$Cellar", name := "full", desc := "()I" } : Jvm.MethodName)) ∈ lw_all := lw_g (lw_at lw_m2 105 rfl) rfl
theorem q425 : (Jvm.Cond.instanceMethod ({ cls := "LevelCellars$Leaky", name := "high", desc := "()I" } : Jvm.MethodName)) ∈ lw_all := lw_g (lw_at lw_m2 114 rfl) rfl
theorem q426 : (Jvm.Cond.code ({ cls := "LevelCellars$Leaky", name := "high", desc := "()I" } : Jvm.MethodName) prog_9_method_3_code (1 : Nat) (Option.some Jvm.ClassFile.FieldType.int)) ∈ lw_all := lw_g (lw_at lw_m2 115 rfl) rfl
theorem q427 : (Jvm.Cond.methodLink "LevelCellars$Leaky" (19 : Nat) ({ cls := "LevelCellars$Cellar", name := "high", desc := "()I" } : Jvm.MethodName)) ∈ lw_all := lw_g (lw_at lw_m2 116 rfl) rfl
theorem q428 : (Jvm.Cond.methodLink "LevelCellars$Leaky" (22 : Nat) ({ cls := "LevelCellars$Leaky", name := "full", desc := "()I" } : Jvm.MethodName)) ∈ lw_all := lw_g (lw_at lw_m2 117 rfl) rfl
theorem q429 : (Jvm.Cond.sameMethod "LevelCellars$Leaky" "LevelCellars$Cellar" "full" "()I") ∈ lw_all := lw_g (lw_at lw_m2 118 rfl) rfl
theorem q432 : (Jvm.Cond.selects "LevelCellars$Leaky" ({ cls := "LevelCellars$Leaky", name := "full", desc := "()I" } : Jvm.MethodName) ({ cls := "LevelCellars$Cellar", name := "full", desc := "()I" } : Jvm.MethodName)) ∈ lw_all := lw_g (lw_at lw_m2 121 rfl) rfl
theorem q433 : (Jvm.Cond.methodLinkNest "LevelCellars$Leaky" (25 : Nat) ({ cls := "LevelCellars", name := "asBit", desc := "(Z)I" } : Jvm.MethodName) "LevelCellars") ∈ lw_tbl := lw_at lw_m2 122 rfl
theorem q440 : (Jvm.Cond.selects "LevelCellars$Leaky" ({ cls := "LevelCellars$Cellar", name := "high", desc := "()I" } : Jvm.MethodName) ({ cls := "LevelCellars$Leaky", name := "high", desc := "()I" } : Jvm.MethodName)) ∈ lw_all := lw_g (lw_at lw_m2 129 rfl) rfl
theorem q509 : (Jvm.Cond.selects "LevelCellars$Leaky" ({ cls := "LevelCellars$Cellar", name := "level", desc := "()I" } : Jvm.MethodName) ({ cls := "LevelCellars$Cellar", name := "level", desc := "()I" } : Jvm.MethodName)) ∈ lw_all := lw_g (lw_at lw_m2 198 rfl) rfl
theorem q517 : (Jvm.Cond.unhidden "LevelCellars$Leaky" "above" "(I)I") ∈ lw_tbl := lw_at lw_m2 206 rfl
theorem q534 : (Jvm.Cond.publicMethod ({ cls := "LevelCellars$Leaky", name := "high", desc := "()I" } : Jvm.MethodName)) ∈ lw_tbl := lw_at lw_m2 223 rfl
theorem q539 : (Jvm.Cond.castable "LevelCellars$Leaky" "LevelCellars$Stands") ∈ lw_tbl := lw_at lw_m2 228 rfl
theorem q540 : (Jvm.Cond.selects "LevelCellars$Leaky" ({ cls := "LevelCellars$Stands", name := "high", desc := "()I" } : Jvm.MethodName) ({ cls := "LevelCellars$Leaky", name := "high", desc := "()I" } : Jvm.MethodName)) ∈ lw_all := lw_g (lw_at lw_m2 229 rfl) rfl
theorem q541 : (Jvm.Cond.unhidden "LevelCellars$Leaky" "high" "()I") ∈ lw_tbl := lw_at lw_m2 230 rfl
theorem q558 : (Jvm.Cond.instanceMethod ({ cls := "LevelCellars$Leaky", name := "loses", desc := "()I" } : Jvm.MethodName)) ∈ lw_all := lw_g (lw_at lw_m3 7 rfl) rfl
theorem q559 : (Jvm.Cond.code ({ cls := "LevelCellars$Leaky", name := "loses", desc := "()I" } : Jvm.MethodName) prog_9_method_4_code (1 : Nat) (Option.some Jvm.ClassFile.FieldType.int)) ∈ lw_all := lw_g (lw_at lw_m3 8 rfl) rfl
theorem q562 : (Jvm.Cond.selects "LevelCellars$Leaky" ({ cls := "LevelCellars$Cellar", name := "loses", desc := "()I" } : Jvm.MethodName) ({ cls := "LevelCellars$Leaky", name := "loses", desc := "()I" } : Jvm.MethodName)) ∈ lw_all := lw_g (lw_at lw_m3 11 rfl) rfl
theorem q574 : (Jvm.Cond.instanceMethod ({ cls := "LevelCellars$Leaky", name := "worth", desc := "()I" } : Jvm.MethodName)) ∈ lw_all := lw_g (lw_at lw_m3 23 rfl) rfl
theorem q575 : (Jvm.Cond.code ({ cls := "LevelCellars$Leaky", name := "worth", desc := "()I" } : Jvm.MethodName) prog_9_method_5_code (1 : Nat) (Option.some Jvm.ClassFile.FieldType.int)) ∈ lw_all := lw_g (lw_at lw_m3 24 rfl) rfl
theorem q576 : (Jvm.Cond.methodLink "LevelCellars$Leaky" (29 : Nat) ({ cls := "LevelCellars$Cellar", name := "worth", desc := "()I" } : Jvm.MethodName)) ∈ lw_all := lw_g (lw_at lw_m3 25 rfl) rfl
theorem q581 : (Jvm.Cond.selects "LevelCellars$Leaky" ({ cls := "LevelCellars$Cellar", name := "worth", desc := "()I" } : Jvm.MethodName) ({ cls := "LevelCellars$Leaky", name := "worth", desc := "()I" } : Jvm.MethodName)) ∈ lw_all := lw_g (lw_at lw_m3 30 rfl) rfl
theorem q601 : (Jvm.Cond.selects "LevelCellars$Leaky" ({ cls := "LevelCellars$Cellar", name := "takes", desc := "(I)I" } : Jvm.MethodName) ({ cls := "LevelCellars$Cellar", name := "takes", desc := "(I)I" } : Jvm.MethodName)) ∈ lw_all := lw_g (lw_at lw_m3 50 rfl) rfl
theorem q717 : (Jvm.Cond.selects "LevelCellars$Leaky" ({ cls := "LevelCellars$Cellar", name := "like", desc := "(LLevelCellars$Cellar;)LLevelCellars$Cellar;" } : Jvm.MethodName) ({ cls := "LevelCellars$Cellar", name := "like", desc := "(LLevelCellars$Cellar;)LLevelCellars$Cellar;" } : Jvm.MethodName)) ∈ lw_all := lw_g (lw_at lw_m3 166 rfl) rfl
theorem q899 : (Jvm.Cond.selects "LevelCellars$Leaky" ({ cls := "LevelCellars$Cellar", name := "empties", desc := "()V" } : Jvm.MethodName) ({ cls := "LevelCellars$Cellar", name := "empties", desc := "()V" } : Jvm.MethodName)) ∈ lw_all := lw_g (lw_at lw_m4 108 rfl) rfl
theorem q1312 : (Jvm.Cond.castable "LevelCellars$Leaky" "LevelCellars$Weighs") ∈ lw_tbl := lw_at lw_m6 41 rfl
theorem q1313 : (Jvm.Cond.selects "LevelCellars$Leaky" ({ cls := "LevelCellars$Weighs", name := "worth", desc := "()I" } : Jvm.MethodName) ({ cls := "LevelCellars$Leaky", name := "worth", desc := "()I" } : Jvm.MethodName)) ∈ lw_all := lw_g (lw_at lw_m6 42 rfl) rfl
theorem q1314 : (Jvm.Cond.unhidden "LevelCellars$Leaky" "worth" "()I") ∈ lw_tbl := lw_at lw_m6 43 rfl
theorem q1315 : (Jvm.Cond.publicMethod ({ cls := "LevelCellars$Leaky", name := "worth", desc := "()I" } : Jvm.MethodName)) ∈ lw_tbl := lw_at lw_m6 44 rfl
theorem q1863 : (Jvm.Cond.sameMethod "LevelCellars$Leaky" "LevelCellars$Leaky" "kind" "()I") ∈ lw_all := lw_g (lw_at lw_m8 112 rfl) rfl
theorem q1866 : (Jvm.Cond.sameMethod "LevelCellars$Leaky" "LevelCellars$Leaky" "loses" "()I") ∈ lw_all := lw_g (lw_at lw_m8 115 rfl) rfl
theorem q1867 : (Jvm.Cond.sameMethod "LevelCellars$Leaky" "LevelCellars$Leaky" "worth" "()I") ∈ lw_all := lw_g (lw_at lw_m8 116 rfl) rfl
theorem q1873 : (Jvm.Cond.castable "LevelCellars$Leaky" "LevelCellars$Cellar") ∈ lw_tbl := lw_at lw_m8 122 rfl
theorem in_X6 : ∀ w ∈ wsX60, w ∈ lw_all := lw_in wsX60 [328, 329, 330, 331, 326] (by decide +kernel) (by decide +kernel)
/-! LevelCellars$Vault -/
set_option maxRecDepth 100000
def RX7 : String := "LevelCellars$Vault"
def TX7 : u_T := fun k => match k with
  | 0 => ("LevelCellars$Cellar", "floor", "I", false)
  | 1 => ("LevelCellars$Cellar", "lip", "I", false)
  | 2 => ("LevelCellars$Cellar", "wines", "[I", true)
  | 3 => ("LevelCellars$Cellar", "this$0", "LLevelCellars;", true)
  | 4 => ("LevelCellars$Deep", "this$0", "LLevelCellars;", true)
  | _ => ("LevelCellars$Vault", "this$0", "LLevelCellars;", true)
def tyX7 : Nat → FieldType := fun k => match k with
  | 0 => .int
  | 1 => .int
  | 2 => .array .int
  | 3 => .object "LevelCellars"
  | 4 => .object "LevelCellars"
  | _ => .object "LevelCellars"
abbrev wsX70 : List Cond := u_ws RX7 TX7 6
-- two fields of one name: no nmX7
theorem tyX7_ok : ∀ k, k < 6 → parseFieldDescriptor (TX7 k).2.2.1 = some (tyX7 k) := by decide +kernel
abbrev cX7_init : ByteArray := prog_18_method_1_code
def yX7_init : MethodName := ⟨RX7, "<init>", "(LLevelCellars;)V"⟩
def dkwX7_init_0 : List UInt8 := [42, 43, 181, 0, 1, 42, 43, 183, 0, 7, 177]
abbrev dktX7_init_0 : List UInt8 := dkwX7_init_0 ++ []
theorem dksX7_init_0 : cX7_init.data.toList.drop 0 = dktX7_init_0 := by decide +kernel
theorem dX7_init_0 : decode cX7_init 0 = .ok (.aload_n 0, 1) := dk_42 (dk_at dksX7_init_0 0 rfl rfl)
theorem dX7_init_1 : decode cX7_init 1 = .ok (.aload_n 1, 1) := dk_43 (dk_at dksX7_init_0 1 rfl rfl)
theorem dX7_init_2 : decode cX7_init 2 = .ok (.putfield 1, 3) := dk_181 0 1 (dk_at dksX7_init_0 2 rfl rfl)
theorem dX7_init_5 : decode cX7_init 5 = .ok (.aload_n 0, 1) := dk_42 (dk_at dksX7_init_0 5 rfl rfl)
theorem dX7_init_6 : decode cX7_init 6 = .ok (.aload_n 1, 1) := dk_43 (dk_at dksX7_init_0 6 rfl rfl)
theorem dX7_init_7 : decode cX7_init 7 = .ok (.invokespecial 7, 3) := dk_183 0 7 (dk_at dksX7_init_0 7 rfl rfl)
theorem dX7_init_10 : decode cX7_init 10 = .ok (.return_, 1) := dk_177 (dk_at dksX7_init_0 10 rfl rfl)
abbrev cX7_kind : ByteArray := prog_18_method_2_code
def yX7_kind : MethodName := ⟨RX7, "kind", "()I"⟩
def dkwX7_kind_0 : List UInt8 := [42, 183, 0, 13, 5, 96, 172]
abbrev dktX7_kind_0 : List UInt8 := dkwX7_kind_0 ++ []
theorem dksX7_kind_0 : cX7_kind.data.toList.drop 0 = dktX7_kind_0 := by decide +kernel
theorem dX7_kind_0 : decode cX7_kind 0 = .ok (.aload_n 0, 1) := dk_42 (dk_at dksX7_kind_0 0 rfl rfl)
theorem dX7_kind_1 : decode cX7_kind 1 = .ok (.invokespecial 13, 3) := dk_183 0 13 (dk_at dksX7_kind_0 1 rfl rfl)
theorem dX7_kind_4 : decode cX7_kind 4 = .ok (.iconst 2, 1) := dk_5 (dk_at dksX7_kind_0 4 rfl rfl)
theorem dX7_kind_5 : decode cX7_kind 5 = .ok (.iadd, 1) := dk_96 (dk_at dksX7_kind_0 5 rfl rfl)
theorem dX7_kind_6 : decode cX7_kind 6 = .ok (.ireturn, 1) := dk_172 (dk_at dksX7_kind_0 6 rfl rfl)
abbrev cX7_high : ByteArray := prog_18_method_3_code
def yX7_high : MethodName := ⟨RX7, "high", "()I"⟩
def dkwX7_high_0 : List UInt8 := [3, 42, 183, 0, 17, 5, 100, 184, 0, 20, 172]
abbrev dktX7_high_0 : List UInt8 := dkwX7_high_0 ++ []
theorem dksX7_high_0 : cX7_high.data.toList.drop 0 = dktX7_high_0 := by decide +kernel
theorem dX7_high_0 : decode cX7_high 0 = .ok (.iconst 0, 1) := dk_3 (dk_at dksX7_high_0 0 rfl rfl)
theorem dX7_high_1 : decode cX7_high 1 = .ok (.aload_n 0, 1) := dk_42 (dk_at dksX7_high_0 1 rfl rfl)
theorem dX7_high_2 : decode cX7_high 2 = .ok (.invokespecial 17, 3) := dk_183 0 17 (dk_at dksX7_high_0 2 rfl rfl)
theorem dX7_high_5 : decode cX7_high 5 = .ok (.iconst 2, 1) := dk_5 (dk_at dksX7_high_0 5 rfl rfl)
theorem dX7_high_6 : decode cX7_high 6 = .ok (.isub, 1) := dk_100 (dk_at dksX7_high_0 6 rfl rfl)
theorem dX7_high_7 : decode cX7_high 7 = .ok (.invokestatic 20, 3) := dk_184 0 20 (dk_at dksX7_high_0 7 rfl rfl)
theorem dX7_high_10 : decode cX7_high 10 = .ok (.ireturn, 1) := dk_172 (dk_at dksX7_high_0 10 rfl rfl)
abbrev cX7_worth : ByteArray := prog_18_method_5_code
def yX7_worth : MethodName := ⟨RX7, "worth", "()I"⟩
def dkwX7_worth_0 : List UInt8 := [5, 42, 183, 0, 30, 104, 172]
abbrev dktX7_worth_0 : List UInt8 := dkwX7_worth_0 ++ []
theorem dksX7_worth_0 : cX7_worth.data.toList.drop 0 = dktX7_worth_0 := by decide +kernel
theorem dX7_worth_0 : decode cX7_worth 0 = .ok (.iconst 2, 1) := dk_5 (dk_at dksX7_worth_0 0 rfl rfl)
theorem dX7_worth_1 : decode cX7_worth 1 = .ok (.aload_n 0, 1) := dk_42 (dk_at dksX7_worth_0 1 rfl rfl)
theorem dX7_worth_2 : decode cX7_worth 2 = .ok (.invokespecial 30, 3) := dk_183 0 30 (dk_at dksX7_worth_0 2 rfl rfl)
theorem dX7_worth_5 : decode cX7_worth 5 = .ok (.imul, 1) := dk_104 (dk_at dksX7_worth_0 5 rfl rfl)
theorem dX7_worth_6 : decode cX7_worth 6 = .ok (.ireturn, 1) := dk_172 (dk_at dksX7_worth_0 6 rfl rfl)
abbrev cX7_takes : ByteArray := prog_18_method_4_code
def yX7_takes : MethodName := ⟨RX7, "takes", "(I)I"⟩
def dkwX7_takes_0 : List UInt8 := [42, 27, 183, 0, 26, 5, 108, 172]
abbrev dktX7_takes_0 : List UInt8 := dkwX7_takes_0 ++ []
theorem dksX7_takes_0 : cX7_takes.data.toList.drop 0 = dktX7_takes_0 := by decide +kernel
theorem dX7_takes_0 : decode cX7_takes 0 = .ok (.aload_n 0, 1) := dk_42 (dk_at dksX7_takes_0 0 rfl rfl)
theorem dX7_takes_1 : decode cX7_takes 1 = .ok (.iload_n 1, 1) := dk_27 (dk_at dksX7_takes_0 1 rfl rfl)
theorem dX7_takes_2 : decode cX7_takes 2 = .ok (.invokespecial 26, 3) := dk_183 0 26 (dk_at dksX7_takes_0 2 rfl rfl)
theorem dX7_takes_5 : decode cX7_takes 5 = .ok (.iconst 2, 1) := dk_5 (dk_at dksX7_takes_0 5 rfl rfl)
theorem dX7_takes_6 : decode cX7_takes 6 = .ok (.idiv, 1) := dk_108 (dk_at dksX7_takes_0 6 rfl rfl)
theorem dX7_takes_7 : decode cX7_takes 7 = .ok (.ireturn, 1) := dk_172 (dk_at dksX7_takes_0 7 rfl rfl)
theorem q79 : (Jvm.Cond.initialized "LevelCellars$Vault") ∈ lw_all := lw_g (lw_at lw_m1 8 rfl) rfl
theorem q334 : (Jvm.Cond.instantiable "LevelCellars$Vault" (6 : Nat)) ∈ lw_all := lw_g (lw_at lw_m2 23 rfl) rfl
theorem q336 : (Jvm.Cond.instanceMethod ({ cls := "LevelCellars$Vault", name := "<init>", desc := "(LLevelCellars;)V" } : Jvm.MethodName)) ∈ lw_all := lw_g (lw_at lw_m2 25 rfl) rfl
theorem q337 : (Jvm.Cond.code ({ cls := "LevelCellars$Vault", name := "<init>", desc := "(LLevelCellars;)V" } : Jvm.MethodName) prog_18_method_1_code (2 : Nat) (Option.none : Option Jvm.ClassFile.FieldType)) ∈ lw_all := lw_g (lw_at lw_m2 26 rfl) rfl
theorem q338 : (Jvm.Cond.methodLinkNest "LevelCellars$Vault" (7 : Nat) ({ cls := "LevelCellars$Deep", name := "<init>", desc := "(LLevelCellars;)V" } : Jvm.MethodName) "LevelCellars") ∈ lw_tbl := lw_at lw_m2 27 rfl
theorem q339 : (Jvm.Cond.fieldLink "LevelCellars$Vault" (1 : Nat) "LevelCellars$Vault" "this$0" "LLevelCellars;") ∈ lw_all := lw_g (lw_at lw_m2 28 rfl) rfl
theorem q340 : (Jvm.Cond.laysFinal "LevelCellars$Vault" "LevelCellars$Vault" "this$0" "LLevelCellars;") ∈ lw_all := lw_g (lw_at lw_m2 29 rfl) rfl
theorem q341 : (Jvm.Cond.soleField "LevelCellars$Vault" "this$0") ∈ lw_all := lw_g (lw_at lw_m2 30 rfl) rfl
theorem q342 : (Jvm.Cond.laysFinal "LevelCellars$Vault" "LevelCellars$Deep" "this$0" "LLevelCellars;") ∈ lw_all := lw_g (lw_at lw_m2 31 rfl) rfl
theorem q343 : (Jvm.Cond.lays "LevelCellars$Vault" "LevelCellars$Cellar" "floor" "I") ∈ lw_all := lw_g (lw_at lw_m2 32 rfl) rfl
theorem q344 : (Jvm.Cond.lays "LevelCellars$Vault" "LevelCellars$Cellar" "lip" "I") ∈ lw_all := lw_g (lw_at lw_m2 33 rfl) rfl
theorem q345 : (Jvm.Cond.laysFinal "LevelCellars$Vault" "LevelCellars$Cellar" "wines" "[I") ∈ lw_all := lw_g (lw_at lw_m2 34 rfl) rfl
theorem q346 : (Jvm.Cond.laysFinal "LevelCellars$Vault" "LevelCellars$Cellar" "this$0" "LLevelCellars;") ∈ lw_all := lw_g (lw_at lw_m2 35 rfl) rfl
theorem q347 : (Jvm.Cond.superclass "LevelCellars$Vault" "LevelCellars$Deep") ∈ lw_all := lw_g (lw_at lw_m2 36 rfl) rfl
theorem q405 : (Jvm.Cond.selects "LevelCellars$Vault" ({ cls := "LevelCellars$Cellar", name := "kind", desc := "()I" } : Jvm.MethodName) ({ cls := "LevelCellars$Vault", name := "kind", desc := "()I" } : Jvm.MethodName)) ∈ lw_all := lw_g (lw_at lw_m2 94 rfl) rfl
theorem q406 : (Jvm.Cond.instanceMethod ({ cls := "LevelCellars$Vault", name := "kind", desc := "()I" } : Jvm.MethodName)) ∈ lw_all := lw_g (lw_at lw_m2 95 rfl) rfl
theorem q407 : (Jvm.Cond.code ({ cls := "LevelCellars$Vault", name := "kind", desc := "()I" } : Jvm.MethodName) prog_18_method_2_code (1 : Nat) (Option.some Jvm.ClassFile.FieldType.int)) ∈ lw_all := lw_g (lw_at lw_m2 96 rfl) rfl
theorem q408 : (Jvm.Cond.methodLink "LevelCellars$Vault" (13 : Nat) ({ cls := "LevelCellars$Deep", name := "kind", desc := "()I" } : Jvm.MethodName)) ∈ lw_all := lw_g (lw_at lw_m2 97 rfl) rfl
theorem q418 : (Jvm.Cond.selects "LevelCellars$Vault" ({ cls := "LevelCellars$Cellar", name := "full", desc := "()I" } : Jvm.MethodName) ({ cls := "LevelCellars$Cellar", name := "full", desc := "()I" } : Jvm.MethodName)) ∈ lw_all := lw_g (lw_at lw_m2 107 rfl) rfl
theorem q444 : (Jvm.Cond.selects "LevelCellars$Vault" ({ cls := "LevelCellars$Cellar", name := "high", desc := "()I" } : Jvm.MethodName) ({ cls := "LevelCellars$Vault", name := "high", desc := "()I" } : Jvm.MethodName)) ∈ lw_all := lw_g (lw_at lw_m2 133 rfl) rfl
theorem q445 : (Jvm.Cond.instanceMethod ({ cls := "LevelCellars$Vault", name := "high", desc := "()I" } : Jvm.MethodName)) ∈ lw_all := lw_g (lw_at lw_m2 134 rfl) rfl
theorem q446 : (Jvm.Cond.code ({ cls := "LevelCellars$Vault", name := "high", desc := "()I" } : Jvm.MethodName) prog_18_method_3_code (1 : Nat) (Option.some Jvm.ClassFile.FieldType.int)) ∈ lw_all := lw_g (lw_at lw_m2 135 rfl) rfl
theorem q447 : (Jvm.Cond.methodLink "LevelCellars$Vault" (17 : Nat) ({ cls := "LevelCellars$Deep", name := "high", desc := "()I" } : Jvm.MethodName)) ∈ lw_all := lw_g (lw_at lw_m2 136 rfl) rfl
theorem q448 : (Jvm.Cond.methodLink "LevelCellars$Vault" (20 : Nat) ({ cls := "java/lang/Math", name := "max", desc := "(II)I" } : Jvm.MethodName)) ∈ lw_all := lw_g (lw_at lw_m2 137 rfl) rfl
theorem q511 : (Jvm.Cond.selects "LevelCellars$Vault" ({ cls := "LevelCellars$Cellar", name := "level", desc := "()I" } : Jvm.MethodName) ({ cls := "LevelCellars$Cellar", name := "level", desc := "()I" } : Jvm.MethodName)) ∈ lw_all := lw_g (lw_at lw_m2 200 rfl) rfl
theorem q519 : (Jvm.Cond.unhidden "LevelCellars$Vault" "above" "(I)I") ∈ lw_tbl := lw_at lw_m2 208 rfl
theorem q546 : (Jvm.Cond.castable "LevelCellars$Vault" "LevelCellars$Stands") ∈ lw_tbl := lw_at lw_m2 235 rfl
theorem q547 : (Jvm.Cond.selects "LevelCellars$Vault" ({ cls := "LevelCellars$Stands", name := "high", desc := "()I" } : Jvm.MethodName) ({ cls := "LevelCellars$Vault", name := "high", desc := "()I" } : Jvm.MethodName)) ∈ lw_all := lw_g (lw_at lw_m2 236 rfl) rfl
theorem q548 : (Jvm.Cond.unhidden "LevelCellars$Vault" "high" "()I") ∈ lw_tbl := lw_at lw_m2 237 rfl
theorem q549 : (Jvm.Cond.publicMethod ({ cls := "LevelCellars$Vault", name := "high", desc := "()I" } : Jvm.MethodName)) ∈ lw_tbl := lw_at lw_m2 238 rfl
theorem q564 : (Jvm.Cond.selects "LevelCellars$Vault" ({ cls := "LevelCellars$Cellar", name := "loses", desc := "()I" } : Jvm.MethodName) ({ cls := "LevelCellars$Cellar", name := "loses", desc := "()I" } : Jvm.MethodName)) ∈ lw_all := lw_g (lw_at lw_m3 13 rfl) rfl
theorem q585 : (Jvm.Cond.selects "LevelCellars$Vault" ({ cls := "LevelCellars$Cellar", name := "worth", desc := "()I" } : Jvm.MethodName) ({ cls := "LevelCellars$Vault", name := "worth", desc := "()I" } : Jvm.MethodName)) ∈ lw_all := lw_g (lw_at lw_m3 34 rfl) rfl
theorem q586 : (Jvm.Cond.instanceMethod ({ cls := "LevelCellars$Vault", name := "worth", desc := "()I" } : Jvm.MethodName)) ∈ lw_all := lw_g (lw_at lw_m3 35 rfl) rfl
theorem q587 : (Jvm.Cond.code ({ cls := "LevelCellars$Vault", name := "worth", desc := "()I" } : Jvm.MethodName) prog_18_method_5_code (1 : Nat) (Option.some Jvm.ClassFile.FieldType.int)) ∈ lw_all := lw_g (lw_at lw_m3 36 rfl) rfl
theorem q588 : (Jvm.Cond.methodLink "LevelCellars$Vault" (30 : Nat) ({ cls := "LevelCellars$Deep", name := "worth", desc := "()I" } : Jvm.MethodName)) ∈ lw_all := lw_g (lw_at lw_m3 37 rfl) rfl
theorem q605 : (Jvm.Cond.selects "LevelCellars$Vault" ({ cls := "LevelCellars$Cellar", name := "takes", desc := "(I)I" } : Jvm.MethodName) ({ cls := "LevelCellars$Vault", name := "takes", desc := "(I)I" } : Jvm.MethodName)) ∈ lw_all := lw_g (lw_at lw_m3 54 rfl) rfl
theorem q606 : (Jvm.Cond.instanceMethod ({ cls := "LevelCellars$Vault", name := "takes", desc := "(I)I" } : Jvm.MethodName)) ∈ lw_all := lw_g (lw_at lw_m3 55 rfl) rfl
theorem q607 : (Jvm.Cond.code ({ cls := "LevelCellars$Vault", name := "takes", desc := "(I)I" } : Jvm.MethodName) prog_18_method_4_code (2 : Nat) (Option.some Jvm.ClassFile.FieldType.int)) ∈ lw_all := lw_g (lw_at lw_m3 56 rfl) rfl
theorem q608 : (Jvm.Cond.methodLink "LevelCellars$Vault" (26 : Nat) ({ cls := "LevelCellars$Deep", name := "takes", desc := "(I)I" } : Jvm.MethodName)) ∈ lw_all := lw_g (lw_at lw_m3 57 rfl) rfl
theorem q719 : (Jvm.Cond.selects "LevelCellars$Vault" ({ cls := "LevelCellars$Cellar", name := "like", desc := "(LLevelCellars$Cellar;)LLevelCellars$Cellar;" } : Jvm.MethodName) ({ cls := "LevelCellars$Cellar", name := "like", desc := "(LLevelCellars$Cellar;)LLevelCellars$Cellar;" } : Jvm.MethodName)) ∈ lw_all := lw_g (lw_at lw_m3 168 rfl) rfl
theorem q901 : (Jvm.Cond.selects "LevelCellars$Vault" ({ cls := "LevelCellars$Cellar", name := "empties", desc := "()V" } : Jvm.MethodName) ({ cls := "LevelCellars$Cellar", name := "empties", desc := "()V" } : Jvm.MethodName)) ∈ lw_all := lw_g (lw_at lw_m4 110 rfl) rfl
theorem q1320 : (Jvm.Cond.castable "LevelCellars$Vault" "LevelCellars$Weighs") ∈ lw_tbl := lw_at lw_m6 49 rfl
theorem q1321 : (Jvm.Cond.selects "LevelCellars$Vault" ({ cls := "LevelCellars$Weighs", name := "worth", desc := "()I" } : Jvm.MethodName) ({ cls := "LevelCellars$Vault", name := "worth", desc := "()I" } : Jvm.MethodName)) ∈ lw_all := lw_g (lw_at lw_m6 50 rfl) rfl
theorem q1322 : (Jvm.Cond.unhidden "LevelCellars$Vault" "worth" "()I") ∈ lw_tbl := lw_at lw_m6 51 rfl
theorem q1323 : (Jvm.Cond.publicMethod ({ cls := "LevelCellars$Vault", name := "worth", desc := "()I" } : Jvm.MethodName)) ∈ lw_tbl := lw_at lw_m6 52 rfl
theorem q1875 : (Jvm.Cond.castable "LevelCellars$Vault" "LevelCellars$Cellar") ∈ lw_tbl := lw_at lw_m8 124 rfl
theorem q1876 : (Jvm.Cond.castable "LevelCellars$Vault" "LevelCellars$Deep") ∈ lw_tbl := lw_at lw_m8 125 rfl
theorem in_X7 : ∀ w ∈ wsX70, w ∈ lw_all := lw_in wsX70 [343, 344, 345, 346, 342, 340] (by decide +kernel) (by decide +kernel)
/-! LevelCellars$Church -/
set_option maxRecDepth 100000
def RX8 : String := "LevelCellars$Church"
def TX8 : u_T := fun k => match k with
  | 0 => ("LevelCellars$Cellar", "floor", "I", false)
  | 1 => ("LevelCellars$Cellar", "lip", "I", false)
  | 2 => ("LevelCellars$Cellar", "wines", "[I", true)
  | 3 => ("LevelCellars$Cellar", "this$0", "LLevelCellars;", true)
  | 4 => ("LevelCellars$Leaky", "this$0", "LLevelCellars;", true)
  | _ => ("LevelCellars$Church", "this$0", "LLevelCellars;", true)
def tyX8 : Nat → FieldType := fun k => match k with
  | 0 => .int
  | 1 => .int
  | 2 => .array .int
  | 3 => .object "LevelCellars"
  | 4 => .object "LevelCellars"
  | _ => .object "LevelCellars"
abbrev wsX80 : List Cond := u_ws RX8 TX8 6
-- two fields of one name: no nmX8
theorem tyX8_ok : ∀ k, k < 6 → parseFieldDescriptor (TX8 k).2.2.1 = some (tyX8 k) := by decide +kernel
abbrev cX8_init : ByteArray := prog_3_method_1_code
def yX8_init : MethodName := ⟨RX8, "<init>", "(LLevelCellars;)V"⟩
def dkwX8_init_0 : List UInt8 := [42, 43, 181, 0, 1, 42, 43, 183, 0, 7, 177]
abbrev dktX8_init_0 : List UInt8 := dkwX8_init_0 ++ []
theorem dksX8_init_0 : cX8_init.data.toList.drop 0 = dktX8_init_0 := by decide +kernel
theorem dX8_init_0 : decode cX8_init 0 = .ok (.aload_n 0, 1) := dk_42 (dk_at dksX8_init_0 0 rfl rfl)
theorem dX8_init_1 : decode cX8_init 1 = .ok (.aload_n 1, 1) := dk_43 (dk_at dksX8_init_0 1 rfl rfl)
theorem dX8_init_2 : decode cX8_init 2 = .ok (.putfield 1, 3) := dk_181 0 1 (dk_at dksX8_init_0 2 rfl rfl)
theorem dX8_init_5 : decode cX8_init 5 = .ok (.aload_n 0, 1) := dk_42 (dk_at dksX8_init_0 5 rfl rfl)
theorem dX8_init_6 : decode cX8_init 6 = .ok (.aload_n 1, 1) := dk_43 (dk_at dksX8_init_0 6 rfl rfl)
theorem dX8_init_7 : decode cX8_init 7 = .ok (.invokespecial 7, 3) := dk_183 0 7 (dk_at dksX8_init_0 7 rfl rfl)
theorem dX8_init_10 : decode cX8_init 10 = .ok (.return_, 1) := dk_177 (dk_at dksX8_init_0 10 rfl rfl)
abbrev cX8_kind : ByteArray := prog_3_method_2_code
def yX8_kind : MethodName := ⟨RX8, "kind", "()I"⟩
def dkwX8_kind_0 : List UInt8 := [42, 183, 0, 13, 5, 96, 172]
abbrev dktX8_kind_0 : List UInt8 := dkwX8_kind_0 ++ []
theorem dksX8_kind_0 : cX8_kind.data.toList.drop 0 = dktX8_kind_0 := by decide +kernel
theorem dX8_kind_0 : decode cX8_kind 0 = .ok (.aload_n 0, 1) := dk_42 (dk_at dksX8_kind_0 0 rfl rfl)
theorem dX8_kind_1 : decode cX8_kind 1 = .ok (.invokespecial 13, 3) := dk_183 0 13 (dk_at dksX8_kind_0 1 rfl rfl)
theorem dX8_kind_4 : decode cX8_kind 4 = .ok (.iconst 2, 1) := dk_5 (dk_at dksX8_kind_0 4 rfl rfl)
theorem dX8_kind_5 : decode cX8_kind 5 = .ok (.iadd, 1) := dk_96 (dk_at dksX8_kind_0 5 rfl rfl)
theorem dX8_kind_6 : decode cX8_kind 6 = .ok (.ireturn, 1) := dk_172 (dk_at dksX8_kind_0 6 rfl rfl)
abbrev cX8_loses : ByteArray := prog_3_method_3_code
def yX8_loses : MethodName := ⟨RX8, "loses", "()I"⟩
def dkwX8_loses_0 : List UInt8 := [3, 42, 183, 0, 17, 4, 100, 184, 0, 20, 172]
abbrev dktX8_loses_0 : List UInt8 := dkwX8_loses_0 ++ []
theorem dksX8_loses_0 : cX8_loses.data.toList.drop 0 = dktX8_loses_0 := by decide +kernel
theorem dX8_loses_0 : decode cX8_loses 0 = .ok (.iconst 0, 1) := dk_3 (dk_at dksX8_loses_0 0 rfl rfl)
theorem dX8_loses_1 : decode cX8_loses 1 = .ok (.aload_n 0, 1) := dk_42 (dk_at dksX8_loses_0 1 rfl rfl)
theorem dX8_loses_2 : decode cX8_loses 2 = .ok (.invokespecial 17, 3) := dk_183 0 17 (dk_at dksX8_loses_0 2 rfl rfl)
theorem dX8_loses_5 : decode cX8_loses 5 = .ok (.iconst 1, 1) := dk_4 (dk_at dksX8_loses_0 5 rfl rfl)
theorem dX8_loses_6 : decode cX8_loses 6 = .ok (.isub, 1) := dk_100 (dk_at dksX8_loses_0 6 rfl rfl)
theorem dX8_loses_7 : decode cX8_loses 7 = .ok (.invokestatic 20, 3) := dk_184 0 20 (dk_at dksX8_loses_0 7 rfl rfl)
theorem dX8_loses_10 : decode cX8_loses 10 = .ok (.ireturn, 1) := dk_172 (dk_at dksX8_loses_0 10 rfl rfl)
abbrev cX8_worth : ByteArray := prog_3_method_4_code
def yX8_worth : MethodName := ⟨RX8, "worth", "()I"⟩
def dkwX8_worth_0 : List UInt8 := [42, 183, 0, 26, 16, 8, 100, 172]
abbrev dktX8_worth_0 : List UInt8 := dkwX8_worth_0 ++ []
theorem dksX8_worth_0 : cX8_worth.data.toList.drop 0 = dktX8_worth_0 := by decide +kernel
theorem dX8_worth_0 : decode cX8_worth 0 = .ok (.aload_n 0, 1) := dk_42 (dk_at dksX8_worth_0 0 rfl rfl)
theorem dX8_worth_1 : decode cX8_worth 1 = .ok (.invokespecial 26, 3) := dk_183 0 26 (dk_at dksX8_worth_0 1 rfl rfl)
theorem dX8_worth_4 : decode cX8_worth 4 = .ok (.bipush 8, 2) := dk_16 8 (dk_at dksX8_worth_0 4 rfl rfl)
theorem dX8_worth_6 : decode cX8_worth 6 = .ok (.isub, 1) := dk_100 (dk_at dksX8_worth_0 6 rfl rfl)
theorem dX8_worth_7 : decode cX8_worth 7 = .ok (.ireturn, 1) := dk_172 (dk_at dksX8_worth_0 7 rfl rfl)
theorem q80 : (Jvm.Cond.initialized "LevelCellars$Church") ∈ lw_all := lw_g (lw_at lw_m1 9 rfl) rfl
theorem q349 : (Jvm.Cond.instantiable "LevelCellars$Church" (6 : Nat)) ∈ lw_all := lw_g (lw_at lw_m2 38 rfl) rfl
theorem q351 : (Jvm.Cond.instanceMethod ({ cls := "LevelCellars$Church", name := "<init>", desc := "(LLevelCellars;)V" } : Jvm.MethodName)) ∈ lw_all := lw_g (lw_at lw_m2 40 rfl) rfl
theorem q352 : (Jvm.Cond.code ({ cls := "LevelCellars$Church", name := "<init>", desc := "(LLevelCellars;)V" } : Jvm.MethodName) prog_3_method_1_code (2 : Nat) (Option.none : Option Jvm.ClassFile.FieldType)) ∈ lw_all := lw_g (lw_at lw_m2 41 rfl) rfl
theorem q353 : (Jvm.Cond.methodLinkNest "LevelCellars$Church" (7 : Nat) ({ cls := "LevelCellars$Leaky", name := "<init>", desc := "(LLevelCellars;)V" } : Jvm.MethodName) "LevelCellars") ∈ lw_tbl := lw_at lw_m2 42 rfl
theorem q354 : (Jvm.Cond.fieldLink "LevelCellars$Church" (1 : Nat) "LevelCellars$Church" "this$0" "LLevelCellars;") ∈ lw_all := lw_g (lw_at lw_m2 43 rfl) rfl
theorem q355 : (Jvm.Cond.laysFinal "LevelCellars$Church" "LevelCellars$Church" "this$0" "LLevelCellars;") ∈ lw_all := lw_g (lw_at lw_m2 44 rfl) rfl
theorem q356 : (Jvm.Cond.soleField "LevelCellars$Church" "this$0") ∈ lw_all := lw_g (lw_at lw_m2 45 rfl) rfl
theorem q357 : (Jvm.Cond.laysFinal "LevelCellars$Church" "LevelCellars$Leaky" "this$0" "LLevelCellars;") ∈ lw_all := lw_g (lw_at lw_m2 46 rfl) rfl
theorem q358 : (Jvm.Cond.lays "LevelCellars$Church" "LevelCellars$Cellar" "floor" "I") ∈ lw_all := lw_g (lw_at lw_m2 47 rfl) rfl
theorem q359 : (Jvm.Cond.lays "LevelCellars$Church" "LevelCellars$Cellar" "lip" "I") ∈ lw_all := lw_g (lw_at lw_m2 48 rfl) rfl
theorem q360 : (Jvm.Cond.laysFinal "LevelCellars$Church" "LevelCellars$Cellar" "wines" "[I") ∈ lw_all := lw_g (lw_at lw_m2 49 rfl) rfl
theorem q361 : (Jvm.Cond.laysFinal "LevelCellars$Church" "LevelCellars$Cellar" "this$0" "LLevelCellars;") ∈ lw_all := lw_g (lw_at lw_m2 50 rfl) rfl
theorem q362 : (Jvm.Cond.superclass "LevelCellars$Church" "LevelCellars$Leaky") ∈ lw_all := lw_g (lw_at lw_m2 51 rfl) rfl
theorem q389 : (Jvm.Cond.selects "LevelCellars$Church" ({ cls := "LevelCellars$Cellar", name := "kind", desc := "()I" } : Jvm.MethodName) ({ cls := "LevelCellars$Church", name := "kind", desc := "()I" } : Jvm.MethodName)) ∈ lw_all := lw_g (lw_at lw_m2 78 rfl) rfl
theorem q390 : (Jvm.Cond.instanceMethod ({ cls := "LevelCellars$Church", name := "kind", desc := "()I" } : Jvm.MethodName)) ∈ lw_all := lw_g (lw_at lw_m2 79 rfl) rfl
theorem q391 : (Jvm.Cond.code ({ cls := "LevelCellars$Church", name := "kind", desc := "()I" } : Jvm.MethodName) prog_3_method_2_code (1 : Nat) (Option.some Jvm.ClassFile.FieldType.int)) ∈ lw_all := lw_g (lw_at lw_m2 80 rfl) rfl
theorem q392 : (Jvm.Cond.methodLink "LevelCellars$Church" (13 : Nat) ({ cls := "LevelCellars$Leaky", name := "kind", desc := "()I" } : Jvm.MethodName)) ∈ lw_all := lw_g (lw_at lw_m2 81 rfl) rfl
theorem q414 : (Jvm.Cond.selects "LevelCellars$Church" ({ cls := "LevelCellars$Cellar", name := "full", desc := "()I" } : Jvm.MethodName) ({ cls := "LevelCellars$Cellar", name := "full", desc := "()I" } : Jvm.MethodName)) ∈ lw_all := lw_g (lw_at lw_m2 103 rfl) rfl
theorem q424 : (Jvm.Cond.selects "LevelCellars$Church" ({ cls := "LevelCellars$Cellar", name := "high", desc := "()I" } : Jvm.MethodName) ({ cls := "LevelCellars$Leaky", name := "high", desc := "()I" } : Jvm.MethodName)) ∈ lw_all := lw_g (lw_at lw_m2 113 rfl) rfl
theorem q431 : (Jvm.Cond.selects "LevelCellars$Church" ({ cls := "LevelCellars$Leaky", name := "full", desc := "()I" } : Jvm.MethodName) ({ cls := "LevelCellars$Cellar", name := "full", desc := "()I" } : Jvm.MethodName)) ∈ lw_all := lw_g (lw_at lw_m2 120 rfl) rfl
theorem q507 : (Jvm.Cond.selects "LevelCellars$Church" ({ cls := "LevelCellars$Cellar", name := "level", desc := "()I" } : Jvm.MethodName) ({ cls := "LevelCellars$Cellar", name := "level", desc := "()I" } : Jvm.MethodName)) ∈ lw_all := lw_g (lw_at lw_m2 196 rfl) rfl
theorem q515 : (Jvm.Cond.unhidden "LevelCellars$Church" "above" "(I)I") ∈ lw_tbl := lw_at lw_m2 204 rfl
theorem q531 : (Jvm.Cond.castable "LevelCellars$Church" "LevelCellars$Stands") ∈ lw_tbl := lw_at lw_m2 220 rfl
theorem q532 : (Jvm.Cond.selects "LevelCellars$Church" ({ cls := "LevelCellars$Stands", name := "high", desc := "()I" } : Jvm.MethodName) ({ cls := "LevelCellars$Leaky", name := "high", desc := "()I" } : Jvm.MethodName)) ∈ lw_all := lw_g (lw_at lw_m2 221 rfl) rfl
theorem q533 : (Jvm.Cond.unhidden "LevelCellars$Church" "high" "()I") ∈ lw_tbl := lw_at lw_m2 222 rfl
theorem q554 : (Jvm.Cond.selects "LevelCellars$Church" ({ cls := "LevelCellars$Cellar", name := "loses", desc := "()I" } : Jvm.MethodName) ({ cls := "LevelCellars$Church", name := "loses", desc := "()I" } : Jvm.MethodName)) ∈ lw_all := lw_g (lw_at lw_m3 3 rfl) rfl
theorem q555 : (Jvm.Cond.instanceMethod ({ cls := "LevelCellars$Church", name := "loses", desc := "()I" } : Jvm.MethodName)) ∈ lw_all := lw_g (lw_at lw_m3 4 rfl) rfl
theorem q556 : (Jvm.Cond.code ({ cls := "LevelCellars$Church", name := "loses", desc := "()I" } : Jvm.MethodName) prog_3_method_3_code (1 : Nat) (Option.some Jvm.ClassFile.FieldType.int)) ∈ lw_all := lw_g (lw_at lw_m3 5 rfl) rfl
theorem q557 : (Jvm.Cond.methodLink "LevelCellars$Church" (17 : Nat) ({ cls := "LevelCellars$Leaky", name := "loses", desc := "()I" } : Jvm.MethodName)) ∈ lw_all := lw_g (lw_at lw_m3 6 rfl) rfl
theorem q560 : (Jvm.Cond.methodLink "LevelCellars$Church" (20 : Nat) ({ cls := "java/lang/Math", name := "max", desc := "(II)I" } : Jvm.MethodName)) ∈ lw_all := lw_g (lw_at lw_m3 9 rfl) rfl
theorem q570 : (Jvm.Cond.selects "LevelCellars$Church" ({ cls := "LevelCellars$Cellar", name := "worth", desc := "()I" } : Jvm.MethodName) ({ cls := "LevelCellars$Church", name := "worth", desc := "()I" } : Jvm.MethodName)) ∈ lw_all := lw_g (lw_at lw_m3 19 rfl) rfl
theorem q571 : (Jvm.Cond.instanceMethod ({ cls := "LevelCellars$Church", name := "worth", desc := "()I" } : Jvm.MethodName)) ∈ lw_all := lw_g (lw_at lw_m3 20 rfl) rfl
theorem q572 : (Jvm.Cond.code ({ cls := "LevelCellars$Church", name := "worth", desc := "()I" } : Jvm.MethodName) prog_3_method_4_code (1 : Nat) (Option.some Jvm.ClassFile.FieldType.int)) ∈ lw_all := lw_g (lw_at lw_m3 21 rfl) rfl
theorem q573 : (Jvm.Cond.methodLink "LevelCellars$Church" (26 : Nat) ({ cls := "LevelCellars$Leaky", name := "worth", desc := "()I" } : Jvm.MethodName)) ∈ lw_all := lw_g (lw_at lw_m3 22 rfl) rfl
theorem q599 : (Jvm.Cond.selects "LevelCellars$Church" ({ cls := "LevelCellars$Cellar", name := "takes", desc := "(I)I" } : Jvm.MethodName) ({ cls := "LevelCellars$Cellar", name := "takes", desc := "(I)I" } : Jvm.MethodName)) ∈ lw_all := lw_g (lw_at lw_m3 48 rfl) rfl
theorem q715 : (Jvm.Cond.selects "LevelCellars$Church" ({ cls := "LevelCellars$Cellar", name := "like", desc := "(LLevelCellars$Cellar;)LLevelCellars$Cellar;" } : Jvm.MethodName) ({ cls := "LevelCellars$Cellar", name := "like", desc := "(LLevelCellars$Cellar;)LLevelCellars$Cellar;" } : Jvm.MethodName)) ∈ lw_all := lw_g (lw_at lw_m3 164 rfl) rfl
theorem q897 : (Jvm.Cond.selects "LevelCellars$Church" ({ cls := "LevelCellars$Cellar", name := "empties", desc := "()V" } : Jvm.MethodName) ({ cls := "LevelCellars$Cellar", name := "empties", desc := "()V" } : Jvm.MethodName)) ∈ lw_all := lw_g (lw_at lw_m4 106 rfl) rfl
theorem q1304 : (Jvm.Cond.castable "LevelCellars$Church" "LevelCellars$Weighs") ∈ lw_tbl := lw_at lw_m6 33 rfl
theorem q1305 : (Jvm.Cond.selects "LevelCellars$Church" ({ cls := "LevelCellars$Weighs", name := "worth", desc := "()I" } : Jvm.MethodName) ({ cls := "LevelCellars$Church", name := "worth", desc := "()I" } : Jvm.MethodName)) ∈ lw_all := lw_g (lw_at lw_m6 34 rfl) rfl
theorem q1306 : (Jvm.Cond.unhidden "LevelCellars$Church" "worth" "()I") ∈ lw_tbl := lw_at lw_m6 35 rfl
theorem q1307 : (Jvm.Cond.publicMethod ({ cls := "LevelCellars$Church", name := "worth", desc := "()I" } : Jvm.MethodName)) ∈ lw_tbl := lw_at lw_m6 36 rfl
theorem q1871 : (Jvm.Cond.castable "LevelCellars$Church" "LevelCellars$Cellar") ∈ lw_tbl := lw_at lw_m8 120 rfl
theorem q1877 : (Jvm.Cond.castable "LevelCellars$Church" "LevelCellars$Leaky") ∈ lw_tbl := lw_at lw_m8 126 rfl
theorem in_X8 : ∀ w ∈ wsX80, w ∈ lw_all := lw_in wsX80 [358, 359, 360, 361, 357, 355] (by decide +kernel) (by decide +kernel)
/-! LevelCellars$Sealed -/
set_option maxRecDepth 100000
def RX9 : String := "LevelCellars$Sealed"
def TX9 : u_T := fun k => match k with
  | 0 => ("LevelCellars$Cellar", "floor", "I", false)
  | 1 => ("LevelCellars$Cellar", "lip", "I", false)
  | 2 => ("LevelCellars$Cellar", "wines", "[I", true)
  | 3 => ("LevelCellars$Cellar", "this$0", "LLevelCellars;", true)
  | _ => ("LevelCellars$Sealed", "this$0", "LLevelCellars;", true)
def tyX9 : Nat → FieldType := fun k => match k with
  | 0 => .int
  | 1 => .int
  | 2 => .array .int
  | 3 => .object "LevelCellars"
  | _ => .object "LevelCellars"
abbrev wsX90 : List Cond := u_ws RX9 TX9 5
-- two fields of one name: no nmX9
theorem tyX9_ok : ∀ k, k < 5 → parseFieldDescriptor (TX9 k).2.2.1 = some (tyX9 k) := by decide +kernel
abbrev cX9_init : ByteArray := prog_13_method_1_code
def yX9_init : MethodName := ⟨RX9, "<init>", "(LLevelCellars;)V"⟩
def dkwX9_init_0 : List UInt8 := [42, 43, 181, 0, 1, 42, 43, 183, 0, 7, 177]
abbrev dktX9_init_0 : List UInt8 := dkwX9_init_0 ++ []
theorem dksX9_init_0 : cX9_init.data.toList.drop 0 = dktX9_init_0 := by decide +kernel
theorem dX9_init_0 : decode cX9_init 0 = .ok (.aload_n 0, 1) := dk_42 (dk_at dksX9_init_0 0 rfl rfl)
theorem dX9_init_1 : decode cX9_init 1 = .ok (.aload_n 1, 1) := dk_43 (dk_at dksX9_init_0 1 rfl rfl)
theorem dX9_init_2 : decode cX9_init 2 = .ok (.putfield 1, 3) := dk_181 0 1 (dk_at dksX9_init_0 2 rfl rfl)
theorem dX9_init_5 : decode cX9_init 5 = .ok (.aload_n 0, 1) := dk_42 (dk_at dksX9_init_0 5 rfl rfl)
theorem dX9_init_6 : decode cX9_init 6 = .ok (.aload_n 1, 1) := dk_43 (dk_at dksX9_init_0 6 rfl rfl)
theorem dX9_init_7 : decode cX9_init 7 = .ok (.invokespecial 7, 3) := dk_183 0 7 (dk_at dksX9_init_0 7 rfl rfl)
theorem dX9_init_10 : decode cX9_init 10 = .ok (.return_, 1) := dk_177 (dk_at dksX9_init_0 10 rfl rfl)
abbrev cX9_kind : ByteArray := prog_13_method_2_code
def yX9_kind : MethodName := ⟨RX9, "kind", "()I"⟩
def dkwX9_kind_0 : List UInt8 := [42, 183, 0, 13, 8, 96, 172]
abbrev dktX9_kind_0 : List UInt8 := dkwX9_kind_0 ++ []
theorem dksX9_kind_0 : cX9_kind.data.toList.drop 0 = dktX9_kind_0 := by decide +kernel
theorem dX9_kind_0 : decode cX9_kind 0 = .ok (.aload_n 0, 1) := dk_42 (dk_at dksX9_kind_0 0 rfl rfl)
theorem dX9_kind_1 : decode cX9_kind 1 = .ok (.invokespecial 13, 3) := dk_183 0 13 (dk_at dksX9_kind_0 1 rfl rfl)
theorem dX9_kind_4 : decode cX9_kind 4 = .ok (.iconst 5, 1) := dk_8 (dk_at dksX9_kind_0 4 rfl rfl)
theorem dX9_kind_5 : decode cX9_kind 5 = .ok (.iadd, 1) := dk_96 (dk_at dksX9_kind_0 5 rfl rfl)
theorem dX9_kind_6 : decode cX9_kind 6 = .ok (.ireturn, 1) := dk_172 (dk_at dksX9_kind_0 6 rfl rfl)
abbrev cX9_high : ByteArray := prog_13_method_3_code
def yX9_high : MethodName := ⟨RX9, "high", "()I"⟩
theorem dX9_high_0 : decode cX9_high 0 = .ok (.iconst 0, 1) := by decide +kernel
theorem dX9_high_1 : decode cX9_high 1 = .ok (.ireturn, 1) := by decide +kernel
abbrev cX9_worth : ByteArray := prog_13_method_5_code
def yX9_worth : MethodName := ⟨RX9, "worth", "()I"⟩
theorem dX9_worth_0 : decode cX9_worth 0 = .ok (.iconst 3, 1) := by decide +kernel
theorem dX9_worth_1 : decode cX9_worth 1 = .ok (.ireturn, 1) := by decide +kernel
abbrev cX9_takes : ByteArray := prog_13_method_4_code
def yX9_takes : MethodName := ⟨RX9, "takes", "(I)I"⟩
theorem dX9_takes_0 : decode cX9_takes 0 = .ok (.iconst 0, 1) := by decide +kernel
theorem dX9_takes_1 : decode cX9_takes 1 = .ok (.ireturn, 1) := by decide +kernel
theorem q81 : (Jvm.Cond.initialized "LevelCellars$Sealed") ∈ lw_all := lw_g (lw_at lw_m1 10 rfl) rfl
theorem q364 : (Jvm.Cond.instantiable "LevelCellars$Sealed" (5 : Nat)) ∈ lw_all := lw_g (lw_at lw_m2 53 rfl) rfl
theorem q366 : (Jvm.Cond.instanceMethod ({ cls := "LevelCellars$Sealed", name := "<init>", desc := "(LLevelCellars;)V" } : Jvm.MethodName)) ∈ lw_all := lw_g (lw_at lw_m2 55 rfl) rfl
theorem q367 : (Jvm.Cond.code ({ cls := "LevelCellars$Sealed", name := "<init>", desc := "(LLevelCellars;)V" } : Jvm.MethodName) prog_13_method_1_code (2 : Nat) (Option.none : Option Jvm.ClassFile.FieldType)) ∈ lw_all := lw_g (lw_at lw_m2 56 rfl) rfl
theorem q368 : (Jvm.Cond.methodLinkNest "LevelCellars$Sealed" (7 : Nat) ({ cls := "LevelCellars$Cellar", name := "<init>", desc := "(LLevelCellars;)V" } : Jvm.MethodName) "LevelCellars") ∈ lw_tbl := lw_at lw_m2 57 rfl
theorem q369 : (Jvm.Cond.fieldLink "LevelCellars$Sealed" (1 : Nat) "LevelCellars$Sealed" "this$0" "LLevelCellars;") ∈ lw_all := lw_g (lw_at lw_m2 58 rfl) rfl
theorem q370 : (Jvm.Cond.laysFinal "LevelCellars$Sealed" "LevelCellars$Sealed" "this$0" "LLevelCellars;") ∈ lw_all := lw_g (lw_at lw_m2 59 rfl) rfl
theorem q371 : (Jvm.Cond.soleField "LevelCellars$Sealed" "this$0") ∈ lw_all := lw_g (lw_at lw_m2 60 rfl) rfl
theorem q372 : (Jvm.Cond.lays "LevelCellars$Sealed" "LevelCellars$Cellar" "floor" "I") ∈ lw_all := lw_g (lw_at lw_m2 61 rfl) rfl
theorem q373 : (Jvm.Cond.lays "LevelCellars$Sealed" "LevelCellars$Cellar" "lip" "I") ∈ lw_all := lw_g (lw_at lw_m2 62 rfl) rfl
theorem q374 : (Jvm.Cond.laysFinal "LevelCellars$Sealed" "LevelCellars$Cellar" "wines" "[I") ∈ lw_all := lw_g (lw_at lw_m2 63 rfl) rfl
theorem q375 : (Jvm.Cond.laysFinal "LevelCellars$Sealed" "LevelCellars$Cellar" "this$0" "LLevelCellars;") ∈ lw_all := lw_g (lw_at lw_m2 64 rfl) rfl
theorem q376 : (Jvm.Cond.superclass "LevelCellars$Sealed" "LevelCellars$Cellar") ∈ lw_all := lw_g (lw_at lw_m2 65 rfl) rfl
theorem q401 : (Jvm.Cond.selects "LevelCellars$Sealed" ({ cls := "LevelCellars$Cellar", name := "kind", desc := "()I" } : Jvm.MethodName) ({ cls := "LevelCellars$Sealed", name := "kind", desc := "()I" } : Jvm.MethodName)) ∈ lw_all := lw_g (lw_at lw_m2 90 rfl) rfl
theorem q402 : (Jvm.Cond.instanceMethod ({ cls := "LevelCellars$Sealed", name := "kind", desc := "()I" } : Jvm.MethodName)) ∈ lw_all := lw_g (lw_at lw_m2 91 rfl) rfl
theorem q403 : (Jvm.Cond.code ({ cls := "LevelCellars$Sealed", name := "kind", desc := "()I" } : Jvm.MethodName) prog_13_method_2_code (1 : Nat) (Option.some Jvm.ClassFile.FieldType.int)) ∈ lw_all := lw_g (lw_at lw_m2 92 rfl) rfl
theorem q404 : (Jvm.Cond.methodLink "LevelCellars$Sealed" (13 : Nat) ({ cls := "LevelCellars$Cellar", name := "kind", desc := "()I" } : Jvm.MethodName)) ∈ lw_all := lw_g (lw_at lw_m2 93 rfl) rfl
theorem q417 : (Jvm.Cond.selects "LevelCellars$Sealed" ({ cls := "LevelCellars$Cellar", name := "full", desc := "()I" } : Jvm.MethodName) ({ cls := "LevelCellars$Cellar", name := "full", desc := "()I" } : Jvm.MethodName)) ∈ lw_all := lw_g (lw_at lw_m2 106 rfl) rfl
theorem q441 : (Jvm.Cond.selects "LevelCellars$Sealed" ({ cls := "LevelCellars$Cellar", name := "high", desc := "()I" } : Jvm.MethodName) ({ cls := "LevelCellars$Sealed", name := "high", desc := "()I" } : Jvm.MethodName)) ∈ lw_all := lw_g (lw_at lw_m2 130 rfl) rfl
theorem q442 : (Jvm.Cond.instanceMethod ({ cls := "LevelCellars$Sealed", name := "high", desc := "()I" } : Jvm.MethodName)) ∈ lw_all := lw_g (lw_at lw_m2 131 rfl) rfl
theorem q443 : (Jvm.Cond.code ({ cls := "LevelCellars$Sealed", name := "high", desc := "()I" } : Jvm.MethodName) prog_13_method_3_code (1 : Nat) (Option.some Jvm.ClassFile.FieldType.int)) ∈ lw_all := lw_g (lw_at lw_m2 132 rfl) rfl
theorem q510 : (Jvm.Cond.selects "LevelCellars$Sealed" ({ cls := "LevelCellars$Cellar", name := "level", desc := "()I" } : Jvm.MethodName) ({ cls := "LevelCellars$Cellar", name := "level", desc := "()I" } : Jvm.MethodName)) ∈ lw_all := lw_g (lw_at lw_m2 199 rfl) rfl
theorem q518 : (Jvm.Cond.unhidden "LevelCellars$Sealed" "above" "(I)I") ∈ lw_tbl := lw_at lw_m2 207 rfl
theorem q542 : (Jvm.Cond.castable "LevelCellars$Sealed" "LevelCellars$Stands") ∈ lw_tbl := lw_at lw_m2 231 rfl
theorem q543 : (Jvm.Cond.selects "LevelCellars$Sealed" ({ cls := "LevelCellars$Stands", name := "high", desc := "()I" } : Jvm.MethodName) ({ cls := "LevelCellars$Sealed", name := "high", desc := "()I" } : Jvm.MethodName)) ∈ lw_all := lw_g (lw_at lw_m2 232 rfl) rfl
theorem q544 : (Jvm.Cond.unhidden "LevelCellars$Sealed" "high" "()I") ∈ lw_tbl := lw_at lw_m2 233 rfl
theorem q545 : (Jvm.Cond.publicMethod ({ cls := "LevelCellars$Sealed", name := "high", desc := "()I" } : Jvm.MethodName)) ∈ lw_tbl := lw_at lw_m2 234 rfl
theorem q563 : (Jvm.Cond.selects "LevelCellars$Sealed" ({ cls := "LevelCellars$Cellar", name := "loses", desc := "()I" } : Jvm.MethodName) ({ cls := "LevelCellars$Cellar", name := "loses", desc := "()I" } : Jvm.MethodName)) ∈ lw_all := lw_g (lw_at lw_m3 12 rfl) rfl
theorem q582 : (Jvm.Cond.selects "LevelCellars$Sealed" ({ cls := "LevelCellars$Cellar", name := "worth", desc := "()I" } : Jvm.MethodName) ({ cls := "LevelCellars$Sealed", name := "worth", desc := "()I" } : Jvm.MethodName)) ∈ lw_all := lw_g (lw_at lw_m3 31 rfl) rfl
theorem q583 : (Jvm.Cond.instanceMethod ({ cls := "LevelCellars$Sealed", name := "worth", desc := "()I" } : Jvm.MethodName)) ∈ lw_all := lw_g (lw_at lw_m3 32 rfl) rfl
theorem q584 : (Jvm.Cond.code ({ cls := "LevelCellars$Sealed", name := "worth", desc := "()I" } : Jvm.MethodName) prog_13_method_5_code (1 : Nat) (Option.some Jvm.ClassFile.FieldType.int)) ∈ lw_all := lw_g (lw_at lw_m3 33 rfl) rfl
theorem q602 : (Jvm.Cond.selects "LevelCellars$Sealed" ({ cls := "LevelCellars$Cellar", name := "takes", desc := "(I)I" } : Jvm.MethodName) ({ cls := "LevelCellars$Sealed", name := "takes", desc := "(I)I" } : Jvm.MethodName)) ∈ lw_all := lw_g (lw_at lw_m3 51 rfl) rfl
theorem q603 : (Jvm.Cond.instanceMethod ({ cls := "LevelCellars$Sealed", name := "takes", desc := "(I)I" } : Jvm.MethodName)) ∈ lw_all := lw_g (lw_at lw_m3 52 rfl) rfl
theorem q604 : (Jvm.Cond.code ({ cls := "LevelCellars$Sealed", name := "takes", desc := "(I)I" } : Jvm.MethodName) prog_13_method_4_code (2 : Nat) (Option.some Jvm.ClassFile.FieldType.int)) ∈ lw_all := lw_g (lw_at lw_m3 53 rfl) rfl
theorem q718 : (Jvm.Cond.selects "LevelCellars$Sealed" ({ cls := "LevelCellars$Cellar", name := "like", desc := "(LLevelCellars$Cellar;)LLevelCellars$Cellar;" } : Jvm.MethodName) ({ cls := "LevelCellars$Cellar", name := "like", desc := "(LLevelCellars$Cellar;)LLevelCellars$Cellar;" } : Jvm.MethodName)) ∈ lw_all := lw_g (lw_at lw_m3 167 rfl) rfl
theorem q900 : (Jvm.Cond.selects "LevelCellars$Sealed" ({ cls := "LevelCellars$Cellar", name := "empties", desc := "()V" } : Jvm.MethodName) ({ cls := "LevelCellars$Cellar", name := "empties", desc := "()V" } : Jvm.MethodName)) ∈ lw_all := lw_g (lw_at lw_m4 109 rfl) rfl
theorem q1316 : (Jvm.Cond.castable "LevelCellars$Sealed" "LevelCellars$Weighs") ∈ lw_tbl := lw_at lw_m6 45 rfl
theorem q1317 : (Jvm.Cond.selects "LevelCellars$Sealed" ({ cls := "LevelCellars$Weighs", name := "worth", desc := "()I" } : Jvm.MethodName) ({ cls := "LevelCellars$Sealed", name := "worth", desc := "()I" } : Jvm.MethodName)) ∈ lw_all := lw_g (lw_at lw_m6 46 rfl) rfl
theorem q1318 : (Jvm.Cond.unhidden "LevelCellars$Sealed" "worth" "()I") ∈ lw_tbl := lw_at lw_m6 47 rfl
theorem q1319 : (Jvm.Cond.publicMethod ({ cls := "LevelCellars$Sealed", name := "worth", desc := "()I" } : Jvm.MethodName)) ∈ lw_tbl := lw_at lw_m6 48 rfl
theorem q1874 : (Jvm.Cond.castable "LevelCellars$Sealed" "LevelCellars$Cellar") ∈ lw_tbl := lw_at lw_m8 123 rfl
theorem in_X9 : ∀ w ∈ wsX90, w ∈ lw_all := lw_in wsX90 [372, 373, 374, 375, 370] (by decide +kernel) (by decide +kernel)
/-! LevelCellars$Two -/
set_option maxRecDepth 100000
def RX10 : String := "LevelCellars$Two"
def TX10 : u_T := fun k => match k with
  | 0 => ("LevelCellars$Two", "sign", "I", true)
  | 1 => ("LevelCellars$Two", "a", "LLevelCellars$Worth;", true)
  | _ => ("LevelCellars$Two", "b", "LLevelCellars$Worth;", true)
def tyX10 : Nat → FieldType := fun k => match k with
  | 0 => .int
  | 1 => .object "LevelCellars$Worth"
  | _ => .object "LevelCellars$Worth"
abbrev wsX100 : List Cond := u_ws RX10 TX10 3
theorem nmX10 : ∀ a, a < 3 → ∀ b, b < 3 → a ≠ b → (TX10 a).2.1 ≠ (TX10 b).2.1 := by decide +kernel
theorem tyX10_ok : ∀ k, k < 3 → parseFieldDescriptor (TX10 k).2.2.1 = some (tyX10 k) := by decide +kernel
abbrev cX10_worth : ByteArray := prog_17_method_2_code
def yX10_worth : MethodName := ⟨RX10, "worth", "()I"⟩
def dkwX10_worth_5 : List UInt8 := [153, 0, 7, 4, 167, 0, 4, 3, 172]
abbrev dktX10_worth_5 : List UInt8 := dkwX10_worth_5 ++ []
def dkwX10_worth_4 : List UInt8 := [167, 0, 4, 3, 172, 27, 153, 0, 11, 28, 153, 0, 7, 4, 167, 0, 4, 3, 172, 27, 154, 0, 7, 28]
abbrev dktX10_worth_4 : List UInt8 := dkwX10_worth_4 ++ dktX10_worth_5
def dkwX10_worth_3 : List UInt8 := [167, 0, 4, 3, 172, 27, 28, 160, 0, 7, 4, 167, 0, 4, 3, 172, 27, 28, 164, 0, 7, 4]
abbrev dktX10_worth_3 : List UInt8 := dkwX10_worth_3 ++ dktX10_worth_4
def dkwX10_worth_2 : List UInt8 := [27, 28, 96, 172, 27, 28, 100, 172, 27, 28, 104, 172, 27, 28, 184, 0, 26, 172, 27, 28, 162, 0, 7, 4]
abbrev dktX10_worth_2 : List UInt8 := dkwX10_worth_2 ++ dktX10_worth_3
def dkwX10_worth_1 : List UInt8 := [170, 0, 0, 0, 0, 0, 0, 181, 0, 0, 0, 38, 0, 0, 0, 62, 0, 0, 0, 167, 0, 0, 0, 181, 0, 0, 0, 181, 0, 0, 0, 181, 0, 0, 0, 124, 0, 0, 0, 116, 0, 0, 0, 181, 0, 0, 0, 120, 0, 0, 0, 181, 0, 0, 0, 128, 0, 0, 0, 181, 0, 0, 0, 181, 0, 0, 0, 181, 0, 0, 0, 181, 0, 0, 0, 181, 0, 0, 0, 181, 0, 0, 0, 181, 0, 0, 0, 181, 0, 0, 0, 181, 0, 0, 0, 181, 0, 0, 0, 181, 0, 0, 0, 181, 0, 0, 0, 134, 0, 0, 0, 145, 0, 0, 0, 156]
abbrev dktX10_worth_1 : List UInt8 := dkwX10_worth_1 ++ dktX10_worth_2
def dkwX10_worth_0 : List UInt8 := [42, 180, 0, 13, 185, 0, 20, 1, 0, 60, 42, 180, 0, 17, 185, 0, 20, 1, 0, 61, 42, 180, 0, 7]
abbrev dktX10_worth_0 : List UInt8 := dkwX10_worth_0 ++ dktX10_worth_1
theorem dksX10_worth_0 : cX10_worth.data.toList.drop 0 = dktX10_worth_0 := by decide +kernel
theorem dksX10_worth_1 : cX10_worth.data.toList.drop 24 = dktX10_worth_1 := dk_seg dksX10_worth_0 24 rfl rfl
theorem dksX10_worth_2 : cX10_worth.data.toList.drop 140 = dktX10_worth_2 := dk_seg dksX10_worth_1 116 rfl rfl
theorem dksX10_worth_3 : cX10_worth.data.toList.drop 164 = dktX10_worth_3 := dk_seg dksX10_worth_2 24 rfl rfl
theorem dksX10_worth_4 : cX10_worth.data.toList.drop 186 = dktX10_worth_4 := dk_seg dksX10_worth_3 22 rfl rfl
theorem dksX10_worth_5 : cX10_worth.data.toList.drop 210 = dktX10_worth_5 := dk_seg dksX10_worth_4 24 rfl rfl
theorem dX10_worth_0 : decode cX10_worth 0 = .ok (.aload_n 0, 1) := dk_42 (dk_at dksX10_worth_0 0 rfl rfl)
theorem dX10_worth_1 : decode cX10_worth 1 = .ok (.getfield 13, 3) := dk_180 0 13 (dk_at dksX10_worth_0 1 rfl rfl)
theorem dX10_worth_4 : decode cX10_worth 4 = .ok (.invokeinterface 20 1, 5) := by decide +kernel
theorem dX10_worth_9 : decode cX10_worth 9 = .ok (.istore_n 1, 1) := dk_60 (dk_at dksX10_worth_0 9 rfl rfl)
theorem dX10_worth_10 : decode cX10_worth 10 = .ok (.aload_n 0, 1) := dk_42 (dk_at dksX10_worth_0 10 rfl rfl)
theorem dX10_worth_11 : decode cX10_worth 11 = .ok (.getfield 17, 3) := dk_180 0 17 (dk_at dksX10_worth_0 11 rfl rfl)
theorem dX10_worth_14 : decode cX10_worth 14 = .ok (.invokeinterface 20 1, 5) := by decide +kernel
theorem dX10_worth_19 : decode cX10_worth 19 = .ok (.istore_n 2, 1) := dk_61 (dk_at dksX10_worth_0 19 rfl rfl)
theorem dX10_worth_20 : decode cX10_worth 20 = .ok (.aload_n 0, 1) := dk_42 (dk_at dksX10_worth_0 20 rfl rfl)
theorem dX10_worth_21 : decode cX10_worth 21 = .ok (.getfield 7, 3) := dk_180 0 7 (dk_at dksX10_worth_0 21 rfl rfl)
theorem dX10_worth_24 : decode cX10_worth 24 = .ok (.tableswitch 181 38 62 #[167, 181, 181, 181, 124, 116, 181, 120, 181, 128, 181, 181, 181, 181, 181, 181, 181, 181, 181, 181, 181, 181, 134, 145, 156], 116) := by decide +kernel
theorem dX10_worth_140 : decode cX10_worth 140 = .ok (.iload_n 1, 1) := dk_27 (dk_at dksX10_worth_2 0 rfl rfl)
theorem dX10_worth_141 : decode cX10_worth 141 = .ok (.iload_n 2, 1) := dk_28 (dk_at dksX10_worth_2 1 rfl rfl)
theorem dX10_worth_142 : decode cX10_worth 142 = .ok (.iadd, 1) := dk_96 (dk_at dksX10_worth_2 2 rfl rfl)
theorem dX10_worth_143 : decode cX10_worth 143 = .ok (.ireturn, 1) := dk_172 (dk_at dksX10_worth_2 3 rfl rfl)
theorem dX10_worth_144 : decode cX10_worth 144 = .ok (.iload_n 1, 1) := dk_27 (dk_at dksX10_worth_2 4 rfl rfl)
theorem dX10_worth_145 : decode cX10_worth 145 = .ok (.iload_n 2, 1) := dk_28 (dk_at dksX10_worth_2 5 rfl rfl)
theorem dX10_worth_146 : decode cX10_worth 146 = .ok (.isub, 1) := dk_100 (dk_at dksX10_worth_2 6 rfl rfl)
theorem dX10_worth_147 : decode cX10_worth 147 = .ok (.ireturn, 1) := dk_172 (dk_at dksX10_worth_2 7 rfl rfl)
theorem dX10_worth_148 : decode cX10_worth 148 = .ok (.iload_n 1, 1) := dk_27 (dk_at dksX10_worth_2 8 rfl rfl)
theorem dX10_worth_149 : decode cX10_worth 149 = .ok (.iload_n 2, 1) := dk_28 (dk_at dksX10_worth_2 9 rfl rfl)
theorem dX10_worth_150 : decode cX10_worth 150 = .ok (.imul, 1) := dk_104 (dk_at dksX10_worth_2 10 rfl rfl)
theorem dX10_worth_151 : decode cX10_worth 151 = .ok (.ireturn, 1) := dk_172 (dk_at dksX10_worth_2 11 rfl rfl)
theorem dX10_worth_152 : decode cX10_worth 152 = .ok (.iload_n 1, 1) := dk_27 (dk_at dksX10_worth_2 12 rfl rfl)
theorem dX10_worth_153 : decode cX10_worth 153 = .ok (.iload_n 2, 1) := dk_28 (dk_at dksX10_worth_2 13 rfl rfl)
theorem dX10_worth_154 : decode cX10_worth 154 = .ok (.invokestatic 26, 3) := dk_184 0 26 (dk_at dksX10_worth_2 14 rfl rfl)
theorem dX10_worth_157 : decode cX10_worth 157 = .ok (.ireturn, 1) := dk_172 (dk_at dksX10_worth_2 17 rfl rfl)
theorem dX10_worth_158 : decode cX10_worth 158 = .ok (.iload_n 1, 1) := dk_27 (dk_at dksX10_worth_2 18 rfl rfl)
theorem dX10_worth_159 : decode cX10_worth 159 = .ok (.iload_n 2, 1) := dk_28 (dk_at dksX10_worth_2 19 rfl rfl)
theorem dX10_worth_160 : decode cX10_worth 160 = .ok (.if_icmp .ge 7, 3) := dk_162 0 7 (dk_at dksX10_worth_2 20 rfl rfl)
theorem dX10_worth_163 : decode cX10_worth 163 = .ok (.iconst 1, 1) := dk_4 (dk_at dksX10_worth_2 23 rfl rfl)
theorem dX10_worth_164 : decode cX10_worth 164 = .ok (.goto 4, 3) := dk_167 0 4 (dk_at dksX10_worth_3 0 rfl rfl)
theorem dX10_worth_167 : decode cX10_worth 167 = .ok (.iconst 0, 1) := dk_3 (dk_at dksX10_worth_3 3 rfl rfl)
theorem dX10_worth_168 : decode cX10_worth 168 = .ok (.ireturn, 1) := dk_172 (dk_at dksX10_worth_3 4 rfl rfl)
theorem dX10_worth_169 : decode cX10_worth 169 = .ok (.iload_n 1, 1) := dk_27 (dk_at dksX10_worth_3 5 rfl rfl)
theorem dX10_worth_170 : decode cX10_worth 170 = .ok (.iload_n 2, 1) := dk_28 (dk_at dksX10_worth_3 6 rfl rfl)
theorem dX10_worth_171 : decode cX10_worth 171 = .ok (.if_icmp .ne 7, 3) := dk_160 0 7 (dk_at dksX10_worth_3 7 rfl rfl)
theorem dX10_worth_174 : decode cX10_worth 174 = .ok (.iconst 1, 1) := dk_4 (dk_at dksX10_worth_3 10 rfl rfl)
theorem dX10_worth_175 : decode cX10_worth 175 = .ok (.goto 4, 3) := dk_167 0 4 (dk_at dksX10_worth_3 11 rfl rfl)
theorem dX10_worth_178 : decode cX10_worth 178 = .ok (.iconst 0, 1) := dk_3 (dk_at dksX10_worth_3 14 rfl rfl)
theorem dX10_worth_179 : decode cX10_worth 179 = .ok (.ireturn, 1) := dk_172 (dk_at dksX10_worth_3 15 rfl rfl)
theorem dX10_worth_180 : decode cX10_worth 180 = .ok (.iload_n 1, 1) := dk_27 (dk_at dksX10_worth_3 16 rfl rfl)
theorem dX10_worth_181 : decode cX10_worth 181 = .ok (.iload_n 2, 1) := dk_28 (dk_at dksX10_worth_3 17 rfl rfl)
theorem dX10_worth_182 : decode cX10_worth 182 = .ok (.if_icmp .le 7, 3) := dk_164 0 7 (dk_at dksX10_worth_3 18 rfl rfl)
theorem dX10_worth_185 : decode cX10_worth 185 = .ok (.iconst 1, 1) := dk_4 (dk_at dksX10_worth_3 21 rfl rfl)
theorem dX10_worth_186 : decode cX10_worth 186 = .ok (.goto 4, 3) := dk_167 0 4 (dk_at dksX10_worth_4 0 rfl rfl)
theorem dX10_worth_189 : decode cX10_worth 189 = .ok (.iconst 0, 1) := dk_3 (dk_at dksX10_worth_4 3 rfl rfl)
theorem dX10_worth_190 : decode cX10_worth 190 = .ok (.ireturn, 1) := dk_172 (dk_at dksX10_worth_4 4 rfl rfl)
theorem dX10_worth_191 : decode cX10_worth 191 = .ok (.iload_n 1, 1) := dk_27 (dk_at dksX10_worth_4 5 rfl rfl)
theorem dX10_worth_192 : decode cX10_worth 192 = .ok (.ifCond .eq 11, 3) := dk_153 0 11 (dk_at dksX10_worth_4 6 rfl rfl)
theorem dX10_worth_195 : decode cX10_worth 195 = .ok (.iload_n 2, 1) := dk_28 (dk_at dksX10_worth_4 9 rfl rfl)
theorem dX10_worth_196 : decode cX10_worth 196 = .ok (.ifCond .eq 7, 3) := dk_153 0 7 (dk_at dksX10_worth_4 10 rfl rfl)
theorem dX10_worth_199 : decode cX10_worth 199 = .ok (.iconst 1, 1) := dk_4 (dk_at dksX10_worth_4 13 rfl rfl)
theorem dX10_worth_200 : decode cX10_worth 200 = .ok (.goto 4, 3) := dk_167 0 4 (dk_at dksX10_worth_4 14 rfl rfl)
theorem dX10_worth_203 : decode cX10_worth 203 = .ok (.iconst 0, 1) := dk_3 (dk_at dksX10_worth_4 17 rfl rfl)
theorem dX10_worth_204 : decode cX10_worth 204 = .ok (.ireturn, 1) := dk_172 (dk_at dksX10_worth_4 18 rfl rfl)
theorem dX10_worth_205 : decode cX10_worth 205 = .ok (.iload_n 1, 1) := dk_27 (dk_at dksX10_worth_4 19 rfl rfl)
theorem dX10_worth_206 : decode cX10_worth 206 = .ok (.ifCond .ne 7, 3) := dk_154 0 7 (dk_at dksX10_worth_4 20 rfl rfl)
theorem dX10_worth_209 : decode cX10_worth 209 = .ok (.iload_n 2, 1) := dk_28 (dk_at dksX10_worth_4 23 rfl rfl)
theorem dX10_worth_210 : decode cX10_worth 210 = .ok (.ifCond .eq 7, 3) := dk_153 0 7 (dk_at dksX10_worth_5 0 rfl rfl)
theorem dX10_worth_213 : decode cX10_worth 213 = .ok (.iconst 1, 1) := dk_4 (dk_at dksX10_worth_5 3 rfl rfl)
theorem dX10_worth_214 : decode cX10_worth 214 = .ok (.goto 4, 3) := dk_167 0 4 (dk_at dksX10_worth_5 4 rfl rfl)
theorem dX10_worth_217 : decode cX10_worth 217 = .ok (.iconst 0, 1) := dk_3 (dk_at dksX10_worth_5 7 rfl rfl)
theorem dX10_worth_218 : decode cX10_worth 218 = .ok (.ireturn, 1) := dk_172 (dk_at dksX10_worth_5 8 rfl rfl)
abbrev cX10_over : ByteArray := prog_17_method_3_code
def yX10_over : MethodName := ⟨RX10, "over", "(II)I"⟩
def dkwX10_over_0 : List UInt8 := [27, 154, 0, 7, 3, 167, 0, 6, 26, 27, 108, 172]
abbrev dktX10_over_0 : List UInt8 := dkwX10_over_0 ++ []
theorem dksX10_over_0 : cX10_over.data.toList.drop 0 = dktX10_over_0 := by decide +kernel
theorem dX10_over_0 : decode cX10_over 0 = .ok (.iload_n 1, 1) := dk_27 (dk_at dksX10_over_0 0 rfl rfl)
theorem dX10_over_1 : decode cX10_over 1 = .ok (.ifCond .ne 7, 3) := dk_154 0 7 (dk_at dksX10_over_0 1 rfl rfl)
theorem dX10_over_4 : decode cX10_over 4 = .ok (.iconst 0, 1) := dk_3 (dk_at dksX10_over_0 4 rfl rfl)
theorem dX10_over_5 : decode cX10_over 5 = .ok (.goto 6, 3) := dk_167 0 6 (dk_at dksX10_over_0 5 rfl rfl)
theorem dX10_over_8 : decode cX10_over 8 = .ok (.iload_n 0, 1) := dk_26 (dk_at dksX10_over_0 8 rfl rfl)
theorem dX10_over_9 : decode cX10_over 9 = .ok (.iload_n 1, 1) := dk_27 (dk_at dksX10_over_0 9 rfl rfl)
theorem dX10_over_10 : decode cX10_over 10 = .ok (.idiv, 1) := dk_108 (dk_at dksX10_over_0 10 rfl rfl)
theorem dX10_over_11 : decode cX10_over 11 = .ok (.ireturn, 1) := dk_172 (dk_at dksX10_over_0 11 rfl rfl)
abbrev cX10_init : ByteArray := prog_17_method_1_code
def yX10_init : MethodName := ⟨RX10, "<init>", "(ILLevelCellars$Worth;LLevelCellars$Worth;)V"⟩
def dkwX10_init_0 : List UInt8 := [42, 183, 0, 1, 42, 27, 181, 0, 7, 42, 44, 181, 0, 13, 42, 45, 181, 0, 17, 177]
abbrev dktX10_init_0 : List UInt8 := dkwX10_init_0 ++ []
theorem dksX10_init_0 : cX10_init.data.toList.drop 0 = dktX10_init_0 := by decide +kernel
theorem dX10_init_0 : decode cX10_init 0 = .ok (.aload_n 0, 1) := dk_42 (dk_at dksX10_init_0 0 rfl rfl)
theorem dX10_init_1 : decode cX10_init 1 = .ok (.invokespecial 1, 3) := dk_183 0 1 (dk_at dksX10_init_0 1 rfl rfl)
theorem dX10_init_4 : decode cX10_init 4 = .ok (.aload_n 0, 1) := dk_42 (dk_at dksX10_init_0 4 rfl rfl)
theorem dX10_init_5 : decode cX10_init 5 = .ok (.iload_n 1, 1) := dk_27 (dk_at dksX10_init_0 5 rfl rfl)
theorem dX10_init_6 : decode cX10_init 6 = .ok (.putfield 7, 3) := dk_181 0 7 (dk_at dksX10_init_0 6 rfl rfl)
theorem dX10_init_9 : decode cX10_init 9 = .ok (.aload_n 0, 1) := dk_42 (dk_at dksX10_init_0 9 rfl rfl)
theorem dX10_init_10 : decode cX10_init 10 = .ok (.aload_n 2, 1) := dk_44 (dk_at dksX10_init_0 10 rfl rfl)
theorem dX10_init_11 : decode cX10_init 11 = .ok (.putfield 13, 3) := dk_181 0 13 (dk_at dksX10_init_0 11 rfl rfl)
theorem dX10_init_14 : decode cX10_init 14 = .ok (.aload_n 0, 1) := dk_42 (dk_at dksX10_init_0 14 rfl rfl)
theorem dX10_init_15 : decode cX10_init 15 = .ok (.aload_n 3, 1) := dk_45 (dk_at dksX10_init_0 15 rfl rfl)
theorem dX10_init_16 : decode cX10_init 16 = .ok (.putfield 17, 3) := dk_181 0 17 (dk_at dksX10_init_0 16 rfl rfl)
theorem dX10_init_19 : decode cX10_init 19 = .ok (.return_, 1) := dk_177 (dk_at dksX10_init_0 19 rfl rfl)
theorem q82 : (Jvm.Cond.initialized "LevelCellars$Two") ∈ lw_all := lw_g (lw_at lw_m1 11 rfl) rfl
theorem q485 : (Jvm.Cond.castable "LevelCellars$Two" "LevelCellars$Worth") ∈ lw_tbl := lw_at lw_m2 174 rfl
theorem q486 : (Jvm.Cond.selects "LevelCellars$Two" ({ cls := "LevelCellars$Worth", name := "worth", desc := "()I" } : Jvm.MethodName) ({ cls := "LevelCellars$Two", name := "worth", desc := "()I" } : Jvm.MethodName)) ∈ lw_all := lw_g (lw_at lw_m2 175 rfl) rfl
theorem q487 : (Jvm.Cond.unhidden "LevelCellars$Two" "worth" "()I") ∈ lw_tbl := lw_at lw_m2 176 rfl
theorem q488 : (Jvm.Cond.instanceMethod ({ cls := "LevelCellars$Two", name := "worth", desc := "()I" } : Jvm.MethodName)) ∈ lw_all := lw_g (lw_at lw_m2 177 rfl) rfl
theorem q489 : (Jvm.Cond.publicMethod ({ cls := "LevelCellars$Two", name := "worth", desc := "()I" } : Jvm.MethodName)) ∈ lw_tbl := lw_at lw_m2 178 rfl
theorem q490 : (Jvm.Cond.code ({ cls := "LevelCellars$Two", name := "worth", desc := "()I" } : Jvm.MethodName) prog_17_method_2_code (3 : Nat) (Option.some Jvm.ClassFile.FieldType.int)) ∈ lw_all := lw_g (lw_at lw_m2 179 rfl) rfl
theorem q491 : (Jvm.Cond.interfaceEntry "LevelCellars$Two" (20 : Nat)) ∈ lw_tbl := lw_at lw_m2 180 rfl
theorem q492 : (Jvm.Cond.methodLink "LevelCellars$Two" (20 : Nat) ({ cls := "LevelCellars$Worth", name := "worth", desc := "()I" } : Jvm.MethodName)) ∈ lw_all := lw_g (lw_at lw_m2 181 rfl) rfl
theorem q493 : (Jvm.Cond.methodLink "LevelCellars$Two" (26 : Nat) ({ cls := "LevelCellars$Two", name := "over", desc := "(II)I" } : Jvm.MethodName)) ∈ lw_all := lw_g (lw_at lw_m2 182 rfl) rfl
theorem q494 : (Jvm.Cond.static ({ cls := "LevelCellars$Two", name := "over", desc := "(II)I" } : Jvm.MethodName)) ∈ lw_all := lw_g (lw_at lw_m2 183 rfl) rfl
theorem q495 : (Jvm.Cond.code ({ cls := "LevelCellars$Two", name := "over", desc := "(II)I" } : Jvm.MethodName) prog_17_method_3_code (2 : Nat) (Option.some Jvm.ClassFile.FieldType.int)) ∈ lw_all := lw_g (lw_at lw_m2 184 rfl) rfl
theorem q1116 : (Jvm.Cond.instantiable "LevelCellars$Two" (3 : Nat)) ∈ lw_all := lw_g (lw_at lw_m5 85 rfl) rfl
theorem q1118 : (Jvm.Cond.instanceMethod ({ cls := "LevelCellars$Two", name := "<init>", desc := "(ILLevelCellars$Worth;LLevelCellars$Worth;)V" } : Jvm.MethodName)) ∈ lw_all := lw_g (lw_at lw_m5 87 rfl) rfl
theorem q1119 : (Jvm.Cond.code ({ cls := "LevelCellars$Two", name := "<init>", desc := "(ILLevelCellars$Worth;LLevelCellars$Worth;)V" } : Jvm.MethodName) prog_17_method_1_code (4 : Nat) (Option.none : Option Jvm.ClassFile.FieldType)) ∈ lw_all := lw_g (lw_at lw_m5 88 rfl) rfl
theorem q1120 : (Jvm.Cond.methodLink "LevelCellars$Two" (1 : Nat) ({ cls := "java/lang/Object", name := "<init>", desc := "()V" } : Jvm.MethodName)) ∈ lw_all := lw_g (lw_at lw_m5 89 rfl) rfl
theorem q1121 : (Jvm.Cond.fieldLink "LevelCellars$Two" (7 : Nat) "LevelCellars$Two" "sign" "I") ∈ lw_all := lw_g (lw_at lw_m5 90 rfl) rfl
theorem q1122 : (Jvm.Cond.fieldLink "LevelCellars$Two" (13 : Nat) "LevelCellars$Two" "a" "LLevelCellars$Worth;") ∈ lw_all := lw_g (lw_at lw_m5 91 rfl) rfl
theorem q1123 : (Jvm.Cond.fieldLink "LevelCellars$Two" (17 : Nat) "LevelCellars$Two" "b" "LLevelCellars$Worth;") ∈ lw_all := lw_g (lw_at lw_m5 92 rfl) rfl
theorem q1124 : (Jvm.Cond.laysFinal "LevelCellars$Two" "LevelCellars$Two" "sign" "I") ∈ lw_all := lw_g (lw_at lw_m5 93 rfl) rfl
theorem q1125 : (Jvm.Cond.soleField "LevelCellars$Two" "sign") ∈ lw_all := lw_g (lw_at lw_m5 94 rfl) rfl
theorem q1126 : (Jvm.Cond.laysFinal "LevelCellars$Two" "LevelCellars$Two" "a" "LLevelCellars$Worth;") ∈ lw_all := lw_g (lw_at lw_m5 95 rfl) rfl
theorem q1127 : (Jvm.Cond.soleField "LevelCellars$Two" "a") ∈ lw_all := lw_g (lw_at lw_m5 96 rfl) rfl
theorem q1128 : (Jvm.Cond.laysFinal "LevelCellars$Two" "LevelCellars$Two" "b" "LLevelCellars$Worth;") ∈ lw_all := lw_g (lw_at lw_m5 97 rfl) rfl
theorem q1129 : (Jvm.Cond.soleField "LevelCellars$Two" "b") ∈ lw_all := lw_g (lw_at lw_m5 98 rfl) rfl
theorem q1130 : (Jvm.Cond.superclass "LevelCellars$Two" "java/lang/Object") ∈ lw_all := lw_g (lw_at lw_m5 99 rfl) rfl
theorem in_X10 : ∀ w ∈ wsX100, w ∈ lw_all := lw_in wsX100 [1124, 1126, 1128] (by decide +kernel) (by decide +kernel)
/-! LevelCellars$Faulty -/
set_option maxRecDepth 100000
def RX11 : String := "LevelCellars$Faulty"
def TX11 : u_T := fun k => match k with
  | 0 => ("java/lang/Throwable", "cause", "Ljava/lang/Throwable;", false)
  | 1 => ("java/lang/Throwable", "stackTrace", "[Ljava/lang/StackTraceElement;", false)
  | 2 => ("java/lang/Throwable", "suppressedExceptions", "Ljava/util/List;", false)
  | 3 => ("java/lang/Throwable", "detailMessage", "Ljava/lang/String;", false)
  | 4 => ("java/lang/Throwable", "backtrace", "Ljava/lang/Object;", false)
  | 5 => ("java/lang/Throwable", "depth", "I", false)
  | _ => ("LevelCellars$Faulty", "place", "I", true)
def tyX11 : Nat → FieldType := fun k => match k with
  | 0 => .object "java/lang/Throwable"
  | 1 => .array (.object "java/lang/StackTraceElement")
  | 2 => .object "java/util/List"
  | 3 => .object "java/lang/String"
  | 4 => .object "java/lang/Object"
  | 5 => .int
  | _ => .int
abbrev wsX110 : List Cond := u_ws RX11 TX11 7
theorem nmX11 : ∀ a, a < 7 → ∀ b, b < 7 → a ≠ b → (TX11 a).2.1 ≠ (TX11 b).2.1 := by decide +kernel
theorem tyX11_ok : ∀ k, k < 7 → parseFieldDescriptor (TX11 k).2.2.1 = some (tyX11 k) := by decide +kernel
abbrev cX11_init : ByteArray := prog_5_method_1_code
def yX11_init : MethodName := ⟨RX11, "<init>", "(I)V"⟩
def dkwX11_init_0 : List UInt8 := [42, 1, 1, 3, 3, 183, 0, 1, 42, 27, 181, 0, 7, 177]
abbrev dktX11_init_0 : List UInt8 := dkwX11_init_0 ++ []
theorem dksX11_init_0 : cX11_init.data.toList.drop 0 = dktX11_init_0 := by decide +kernel
theorem dX11_init_0 : decode cX11_init 0 = .ok (.aload_n 0, 1) := dk_42 (dk_at dksX11_init_0 0 rfl rfl)
theorem dX11_init_1 : decode cX11_init 1 = .ok (.aconst_null, 1) := dk_1 (dk_at dksX11_init_0 1 rfl rfl)
theorem dX11_init_2 : decode cX11_init 2 = .ok (.aconst_null, 1) := dk_1 (dk_at dksX11_init_0 2 rfl rfl)
theorem dX11_init_3 : decode cX11_init 3 = .ok (.iconst 0, 1) := dk_3 (dk_at dksX11_init_0 3 rfl rfl)
theorem dX11_init_4 : decode cX11_init 4 = .ok (.iconst 0, 1) := dk_3 (dk_at dksX11_init_0 4 rfl rfl)
theorem dX11_init_5 : decode cX11_init 5 = .ok (.invokespecial 1, 3) := dk_183 0 1 (dk_at dksX11_init_0 5 rfl rfl)
theorem dX11_init_8 : decode cX11_init 8 = .ok (.aload_n 0, 1) := dk_42 (dk_at dksX11_init_0 8 rfl rfl)
theorem dX11_init_9 : decode cX11_init 9 = .ok (.iload_n 1, 1) := dk_27 (dk_at dksX11_init_0 9 rfl rfl)
theorem dX11_init_10 : decode cX11_init 10 = .ok (.putfield 7, 3) := dk_181 0 7 (dk_at dksX11_init_0 10 rfl rfl)
theorem dX11_init_13 : decode cX11_init 13 = .ok (.return_, 1) := dk_177 (dk_at dksX11_init_0 13 rfl rfl)
theorem q93 : (Jvm.Cond.initialized "LevelCellars$Faulty") ∈ lw_all := lw_g (lw_at lw_m1 22 rfl) rfl
theorem q637 : (Jvm.Cond.selects "LevelCellars$Faulty" ({ cls := "java/lang/Throwable", name := "fillInStackTrace", desc := "()Ljava/lang/Throwable;" } : Jvm.MethodName) ({ cls := "java/lang/Throwable", name := "fillInStackTrace", desc := "()Ljava/lang/Throwable;" } : Jvm.MethodName)) ∈ lw_all := lw_g (lw_at lw_m3 86 rfl) rfl
theorem q1027 : (Jvm.Cond.instantiable "LevelCellars$Faulty" (7 : Nat)) ∈ lw_all := lw_g (lw_at lw_m4 236 rfl) rfl
theorem q1028 : (Jvm.Cond.castable "LevelCellars$Faulty" "LevelCellars$Faulty") ∈ lw_tbl := lw_at lw_m4 237 rfl
theorem q1029 : (Jvm.Cond.selects "LevelCellars$Faulty" ({ cls := "java/lang/Throwable", name := "fillInStackTrace", desc := "(I)Ljava/lang/Throwable;" } : Jvm.MethodName) ({ cls := "java/lang/Throwable", name := "fillInStackTrace", desc := "(I)Ljava/lang/Throwable;" } : Jvm.MethodName)) ∈ lw_all := lw_g (lw_at lw_m4 238 rfl) rfl
theorem q1030 : (Jvm.Cond.lays "LevelCellars$Faulty" "java/lang/Throwable" "cause" "Ljava/lang/Throwable;") ∈ lw_all := lw_g (lw_at lw_m4 239 rfl) rfl
theorem q1031 : (Jvm.Cond.lays "LevelCellars$Faulty" "java/lang/Throwable" "stackTrace" "[Ljava/lang/StackTraceElement;") ∈ lw_all := lw_g (lw_at lw_m5 0 rfl) rfl
theorem q1032 : (Jvm.Cond.lays "LevelCellars$Faulty" "java/lang/Throwable" "suppressedExceptions" "Ljava/util/List;") ∈ lw_all := lw_g (lw_at lw_m5 1 rfl) rfl
theorem q1033 : (Jvm.Cond.lays "LevelCellars$Faulty" "java/lang/Throwable" "detailMessage" "Ljava/lang/String;") ∈ lw_all := lw_g (lw_at lw_m5 2 rfl) rfl
theorem q1034 : (Jvm.Cond.lays "LevelCellars$Faulty" "java/lang/Throwable" "backtrace" "Ljava/lang/Object;") ∈ lw_all := lw_g (lw_at lw_m5 3 rfl) rfl
theorem q1036 : (Jvm.Cond.instanceMethod ({ cls := "LevelCellars$Faulty", name := "<init>", desc := "(I)V" } : Jvm.MethodName)) ∈ lw_all := lw_g (lw_at lw_m5 5 rfl) rfl
theorem q1037 : (Jvm.Cond.code ({ cls := "LevelCellars$Faulty", name := "<init>", desc := "(I)V" } : Jvm.MethodName) prog_5_method_1_code (2 : Nat) (Option.none : Option Jvm.ClassFile.FieldType)) ∈ lw_all := lw_g (lw_at lw_m5 6 rfl) rfl
theorem q1038 : (Jvm.Cond.methodLink "LevelCellars$Faulty" (1 : Nat) ({ cls := "java/lang/Exception", name := "<init>", desc := "(Ljava/lang/String;Ljava/lang/Throwable;ZZ)V" } : Jvm.MethodName)) ∈ lw_all := lw_g (lw_at lw_m5 7 rfl) rfl
theorem q1044 : (Jvm.Cond.fieldLink "LevelCellars$Faulty" (7 : Nat) "LevelCellars$Faulty" "place" "I") ∈ lw_all := lw_g (lw_at lw_m5 13 rfl) rfl
theorem q1046 : (Jvm.Cond.laysFinal "LevelCellars$Faulty" "LevelCellars$Faulty" "place" "I") ∈ lw_all := lw_g (lw_at lw_m5 15 rfl) rfl
theorem q1047 : (Jvm.Cond.soleField "LevelCellars$Faulty" "place") ∈ lw_all := lw_g (lw_at lw_m5 16 rfl) rfl
theorem q1048 : (Jvm.Cond.lays "LevelCellars$Faulty" "java/lang/Throwable" "depth" "I") ∈ lw_all := lw_g (lw_at lw_m5 17 rfl) rfl
theorem q1049 : (Jvm.Cond.superclass "LevelCellars$Faulty" "java/lang/Exception") ∈ lw_all := lw_g (lw_at lw_m5 18 rfl) rfl
theorem in_X11 : ∀ w ∈ wsX110, w ∈ lw_all := lw_in wsX110 [1030, 1031, 1032, 1033, 1034, 1048, 1046] (by decide +kernel) (by decide +kernel)
/-! LevelCellars$Plain -/
set_option maxRecDepth 100000
def RX12 : String := "LevelCellars$Plain"
def TX12 : u_T := fun k => match k with
  | _ => ("LevelCellars$Plain", "v", "I", true)
def tyX12 : Nat → FieldType := fun k => match k with
  | _ => .int
abbrev wsX120 : List Cond := u_ws RX12 TX12 1
theorem nmX12 : ∀ a, a < 1 → ∀ b, b < 1 → a ≠ b → (TX12 a).2.1 ≠ (TX12 b).2.1 := by decide +kernel
theorem tyX12_ok : ∀ k, k < 1 → parseFieldDescriptor (TX12 k).2.2.1 = some (tyX12 k) := by decide +kernel
abbrev cX12_worth : ByteArray := prog_12_method_2_code
def yX12_worth : MethodName := ⟨RX12, "worth", "()I"⟩
theorem dX12_worth_0 : decode cX12_worth 0 = .ok (.aload_n 0, 1) := by decide +kernel
theorem dX12_worth_1 : decode cX12_worth 1 = .ok (.getfield 7, 3) := by decide +kernel
theorem dX12_worth_4 : decode cX12_worth 4 = .ok (.ireturn, 1) := by decide +kernel
abbrev cX12_init : ByteArray := prog_12_method_1_code
def yX12_init : MethodName := ⟨RX12, "<init>", "(I)V"⟩
def dkwX12_init_0 : List UInt8 := [42, 183, 0, 1, 42, 27, 181, 0, 7, 177]
abbrev dktX12_init_0 : List UInt8 := dkwX12_init_0 ++ []
theorem dksX12_init_0 : cX12_init.data.toList.drop 0 = dktX12_init_0 := by decide +kernel
theorem dX12_init_0 : decode cX12_init 0 = .ok (.aload_n 0, 1) := dk_42 (dk_at dksX12_init_0 0 rfl rfl)
theorem dX12_init_1 : decode cX12_init 1 = .ok (.invokespecial 1, 3) := dk_183 0 1 (dk_at dksX12_init_0 1 rfl rfl)
theorem dX12_init_4 : decode cX12_init 4 = .ok (.aload_n 0, 1) := dk_42 (dk_at dksX12_init_0 4 rfl rfl)
theorem dX12_init_5 : decode cX12_init 5 = .ok (.iload_n 1, 1) := dk_27 (dk_at dksX12_init_0 5 rfl rfl)
theorem dX12_init_6 : decode cX12_init 6 = .ok (.putfield 7, 3) := dk_181 0 7 (dk_at dksX12_init_0 6 rfl rfl)
theorem dX12_init_9 : decode cX12_init 9 = .ok (.return_, 1) := dk_177 (dk_at dksX12_init_0 9 rfl rfl)
theorem q94 : (Jvm.Cond.initialized "LevelCellars$Plain") ∈ lw_all := lw_g (lw_at lw_m1 23 rfl) rfl
theorem q479 : (Jvm.Cond.castable "LevelCellars$Plain" "LevelCellars$Worth") ∈ lw_tbl := lw_at lw_m2 168 rfl
theorem q480 : (Jvm.Cond.selects "LevelCellars$Plain" ({ cls := "LevelCellars$Worth", name := "worth", desc := "()I" } : Jvm.MethodName) ({ cls := "LevelCellars$Plain", name := "worth", desc := "()I" } : Jvm.MethodName)) ∈ lw_all := lw_g (lw_at lw_m2 169 rfl) rfl
theorem q481 : (Jvm.Cond.unhidden "LevelCellars$Plain" "worth" "()I") ∈ lw_tbl := lw_at lw_m2 170 rfl
theorem q482 : (Jvm.Cond.instanceMethod ({ cls := "LevelCellars$Plain", name := "worth", desc := "()I" } : Jvm.MethodName)) ∈ lw_all := lw_g (lw_at lw_m2 171 rfl) rfl
theorem q483 : (Jvm.Cond.publicMethod ({ cls := "LevelCellars$Plain", name := "worth", desc := "()I" } : Jvm.MethodName)) ∈ lw_tbl := lw_at lw_m2 172 rfl
theorem q484 : (Jvm.Cond.code ({ cls := "LevelCellars$Plain", name := "worth", desc := "()I" } : Jvm.MethodName) prog_12_method_2_code (1 : Nat) (Option.some Jvm.ClassFile.FieldType.int)) ∈ lw_all := lw_g (lw_at lw_m2 173 rfl) rfl
theorem q1079 : (Jvm.Cond.instantiable "LevelCellars$Plain" (1 : Nat)) ∈ lw_all := lw_g (lw_at lw_m5 48 rfl) rfl
theorem q1081 : (Jvm.Cond.instanceMethod ({ cls := "LevelCellars$Plain", name := "<init>", desc := "(I)V" } : Jvm.MethodName)) ∈ lw_all := lw_g (lw_at lw_m5 50 rfl) rfl
theorem q1082 : (Jvm.Cond.code ({ cls := "LevelCellars$Plain", name := "<init>", desc := "(I)V" } : Jvm.MethodName) prog_12_method_1_code (2 : Nat) (Option.none : Option Jvm.ClassFile.FieldType)) ∈ lw_all := lw_g (lw_at lw_m5 51 rfl) rfl
theorem q1083 : (Jvm.Cond.methodLink "LevelCellars$Plain" (1 : Nat) ({ cls := "java/lang/Object", name := "<init>", desc := "()V" } : Jvm.MethodName)) ∈ lw_all := lw_g (lw_at lw_m5 52 rfl) rfl
theorem q1084 : (Jvm.Cond.fieldLink "LevelCellars$Plain" (7 : Nat) "LevelCellars$Plain" "v" "I") ∈ lw_all := lw_g (lw_at lw_m5 53 rfl) rfl
theorem q1085 : (Jvm.Cond.laysFinal "LevelCellars$Plain" "LevelCellars$Plain" "v" "I") ∈ lw_all := lw_g (lw_at lw_m5 54 rfl) rfl
theorem q1086 : (Jvm.Cond.soleField "LevelCellars$Plain" "v") ∈ lw_all := lw_g (lw_at lw_m5 55 rfl) rfl
theorem q1087 : (Jvm.Cond.superclass "LevelCellars$Plain" "java/lang/Object") ∈ lw_all := lw_g (lw_at lw_m5 56 rfl) rfl
theorem in_X12 : ∀ w ∈ wsX120, w ∈ lw_all := lw_in wsX120 [1085] (by decide +kernel) (by decide +kernel)
/-! LevelCellars$Name -/
set_option maxRecDepth 100000
def RX13 : String := "LevelCellars$Name"
def TX13 : u_T := fun k => match k with
  | 0 => ("LevelCellars$Name", "letter", "I", true)
  | _ => ("LevelCellars$Name", "this$0", "LLevelCellars;", true)
def tyX13 : Nat → FieldType := fun k => match k with
  | 0 => .int
  | _ => .object "LevelCellars"
abbrev wsX130 : List Cond := u_ws RX13 TX13 2
theorem nmX13 : ∀ a, a < 2 → ∀ b, b < 2 → a ≠ b → (TX13 a).2.1 ≠ (TX13 b).2.1 := by decide +kernel
theorem tyX13_ok : ∀ k, k < 2 → parseFieldDescriptor (TX13 k).2.2.1 = some (tyX13 k) := by decide +kernel
abbrev cX13_worth : ByteArray := prog_10_method_2_code
def yX13_worth : MethodName := ⟨RX13, "worth", "()I"⟩
def dkwX13_worth_0 : List UInt8 := [42, 180, 0, 1, 180, 0, 17, 42, 180, 0, 13, 46, 172]
abbrev dktX13_worth_0 : List UInt8 := dkwX13_worth_0 ++ []
theorem dksX13_worth_0 : cX13_worth.data.toList.drop 0 = dktX13_worth_0 := by decide +kernel
theorem dX13_worth_0 : decode cX13_worth 0 = .ok (.aload_n 0, 1) := dk_42 (dk_at dksX13_worth_0 0 rfl rfl)
theorem dX13_worth_1 : decode cX13_worth 1 = .ok (.getfield 1, 3) := dk_180 0 1 (dk_at dksX13_worth_0 1 rfl rfl)
theorem dX13_worth_4 : decode cX13_worth 4 = .ok (.getfield 17, 3) := dk_180 0 17 (dk_at dksX13_worth_0 4 rfl rfl)
theorem dX13_worth_7 : decode cX13_worth 7 = .ok (.aload_n 0, 1) := dk_42 (dk_at dksX13_worth_0 7 rfl rfl)
theorem dX13_worth_8 : decode cX13_worth 8 = .ok (.getfield 13, 3) := dk_180 0 13 (dk_at dksX13_worth_0 8 rfl rfl)
theorem dX13_worth_11 : decode cX13_worth 11 = .ok (.iaload, 1) := dk_46 (dk_at dksX13_worth_0 11 rfl rfl)
theorem dX13_worth_12 : decode cX13_worth 12 = .ok (.ireturn, 1) := dk_172 (dk_at dksX13_worth_0 12 rfl rfl)
abbrev cX13_init : ByteArray := prog_10_method_1_code
def yX13_init : MethodName := ⟨RX13, "<init>", "(LLevelCellars;I)V"⟩
def dkwX13_init_0 : List UInt8 := [42, 43, 181, 0, 1, 42, 183, 0, 7, 42, 28, 181, 0, 13, 177]
abbrev dktX13_init_0 : List UInt8 := dkwX13_init_0 ++ []
theorem dksX13_init_0 : cX13_init.data.toList.drop 0 = dktX13_init_0 := by decide +kernel
theorem dX13_init_0 : decode cX13_init 0 = .ok (.aload_n 0, 1) := dk_42 (dk_at dksX13_init_0 0 rfl rfl)
theorem dX13_init_1 : decode cX13_init 1 = .ok (.aload_n 1, 1) := dk_43 (dk_at dksX13_init_0 1 rfl rfl)
theorem dX13_init_2 : decode cX13_init 2 = .ok (.putfield 1, 3) := dk_181 0 1 (dk_at dksX13_init_0 2 rfl rfl)
theorem dX13_init_5 : decode cX13_init 5 = .ok (.aload_n 0, 1) := dk_42 (dk_at dksX13_init_0 5 rfl rfl)
theorem dX13_init_6 : decode cX13_init 6 = .ok (.invokespecial 7, 3) := dk_183 0 7 (dk_at dksX13_init_0 6 rfl rfl)
theorem dX13_init_9 : decode cX13_init 9 = .ok (.aload_n 0, 1) := dk_42 (dk_at dksX13_init_0 9 rfl rfl)
theorem dX13_init_10 : decode cX13_init 10 = .ok (.iload_n 2, 1) := dk_28 (dk_at dksX13_init_0 10 rfl rfl)
theorem dX13_init_11 : decode cX13_init 11 = .ok (.putfield 13, 3) := dk_181 0 13 (dk_at dksX13_init_0 11 rfl rfl)
theorem dX13_init_14 : decode cX13_init 14 = .ok (.return_, 1) := dk_177 (dk_at dksX13_init_0 14 rfl rfl)
theorem q95 : (Jvm.Cond.initialized "LevelCellars$Name") ∈ lw_all := lw_g (lw_at lw_m1 24 rfl) rfl
theorem q198 : (Jvm.Cond.fieldLinkNest "LevelCellars$Name" (17 : Nat) "LevelCellars" "named" "[I" "LevelCellars") ∈ lw_tbl := lw_at lw_m1 127 rfl
theorem q465 : (Jvm.Cond.castable "LevelCellars$Name" "LevelCellars$Worth") ∈ lw_tbl := lw_at lw_m2 154 rfl
theorem q466 : (Jvm.Cond.selects "LevelCellars$Name" ({ cls := "LevelCellars$Worth", name := "worth", desc := "()I" } : Jvm.MethodName) ({ cls := "LevelCellars$Name", name := "worth", desc := "()I" } : Jvm.MethodName)) ∈ lw_all := lw_g (lw_at lw_m2 155 rfl) rfl
theorem q467 : (Jvm.Cond.unhidden "LevelCellars$Name" "worth" "()I") ∈ lw_tbl := lw_at lw_m2 156 rfl
theorem q468 : (Jvm.Cond.instanceMethod ({ cls := "LevelCellars$Name", name := "worth", desc := "()I" } : Jvm.MethodName)) ∈ lw_all := lw_g (lw_at lw_m2 157 rfl) rfl
theorem q469 : (Jvm.Cond.publicMethod ({ cls := "LevelCellars$Name", name := "worth", desc := "()I" } : Jvm.MethodName)) ∈ lw_tbl := lw_at lw_m2 158 rfl
theorem q470 : (Jvm.Cond.code ({ cls := "LevelCellars$Name", name := "worth", desc := "()I" } : Jvm.MethodName) prog_10_method_2_code (1 : Nat) (Option.some Jvm.ClassFile.FieldType.int)) ∈ lw_all := lw_g (lw_at lw_m2 159 rfl) rfl
theorem q1089 : (Jvm.Cond.instantiable "LevelCellars$Name" (2 : Nat)) ∈ lw_all := lw_g (lw_at lw_m5 58 rfl) rfl
theorem q1091 : (Jvm.Cond.instanceMethod ({ cls := "LevelCellars$Name", name := "<init>", desc := "(LLevelCellars;I)V" } : Jvm.MethodName)) ∈ lw_all := lw_g (lw_at lw_m5 60 rfl) rfl
theorem q1092 : (Jvm.Cond.code ({ cls := "LevelCellars$Name", name := "<init>", desc := "(LLevelCellars;I)V" } : Jvm.MethodName) prog_10_method_1_code (3 : Nat) (Option.none : Option Jvm.ClassFile.FieldType)) ∈ lw_all := lw_g (lw_at lw_m5 61 rfl) rfl
theorem q1093 : (Jvm.Cond.methodLink "LevelCellars$Name" (7 : Nat) ({ cls := "java/lang/Object", name := "<init>", desc := "()V" } : Jvm.MethodName)) ∈ lw_all := lw_g (lw_at lw_m5 62 rfl) rfl
theorem q1094 : (Jvm.Cond.fieldLink "LevelCellars$Name" (13 : Nat) "LevelCellars$Name" "letter" "I") ∈ lw_all := lw_g (lw_at lw_m5 63 rfl) rfl
theorem q1095 : (Jvm.Cond.fieldLink "LevelCellars$Name" (1 : Nat) "LevelCellars$Name" "this$0" "LLevelCellars;") ∈ lw_all := lw_g (lw_at lw_m5 64 rfl) rfl
theorem q1096 : (Jvm.Cond.laysFinal "LevelCellars$Name" "LevelCellars$Name" "letter" "I") ∈ lw_all := lw_g (lw_at lw_m5 65 rfl) rfl
theorem q1097 : (Jvm.Cond.soleField "LevelCellars$Name" "letter") ∈ lw_all := lw_g (lw_at lw_m5 66 rfl) rfl
theorem q1098 : (Jvm.Cond.laysFinal "LevelCellars$Name" "LevelCellars$Name" "this$0" "LLevelCellars;") ∈ lw_all := lw_g (lw_at lw_m5 67 rfl) rfl
theorem q1099 : (Jvm.Cond.soleField "LevelCellars$Name" "this$0") ∈ lw_all := lw_g (lw_at lw_m5 68 rfl) rfl
theorem q1100 : (Jvm.Cond.superclass "LevelCellars$Name" "java/lang/Object") ∈ lw_all := lw_g (lw_at lw_m5 69 rfl) rfl
theorem in_X13 : ∀ w ∈ wsX130, w ∈ lw_all := lw_in wsX130 [1096, 1098] (by decide +kernel) (by decide +kernel)
/-! LevelCellars$Not -/
set_option maxRecDepth 100000
def RX14 : String := "LevelCellars$Not"
def TX14 : u_T := fun k => match k with
  | _ => ("LevelCellars$Not", "of", "LLevelCellars$Worth;", true)
def tyX14 : Nat → FieldType := fun k => match k with
  | _ => .object "LevelCellars$Worth"
abbrev wsX140 : List Cond := u_ws RX14 TX14 1
theorem nmX14 : ∀ a, a < 1 → ∀ b, b < 1 → a ≠ b → (TX14 a).2.1 ≠ (TX14 b).2.1 := by decide +kernel
theorem tyX14_ok : ∀ k, k < 1 → parseFieldDescriptor (TX14 k).2.2.1 = some (tyX14 k) := by decide +kernel
abbrev cX14_worth : ByteArray := prog_11_method_2_code
def yX14_worth : MethodName := ⟨RX14, "worth", "()I"⟩
def dkwX14_worth_0 : List UInt8 := [42, 180, 0, 7, 185, 0, 13, 1, 0, 154, 0, 7, 4, 167, 0, 4, 3, 172]
abbrev dktX14_worth_0 : List UInt8 := dkwX14_worth_0 ++ []
theorem dksX14_worth_0 : cX14_worth.data.toList.drop 0 = dktX14_worth_0 := by decide +kernel
theorem dX14_worth_0 : decode cX14_worth 0 = .ok (.aload_n 0, 1) := dk_42 (dk_at dksX14_worth_0 0 rfl rfl)
theorem dX14_worth_1 : decode cX14_worth 1 = .ok (.getfield 7, 3) := dk_180 0 7 (dk_at dksX14_worth_0 1 rfl rfl)
theorem dX14_worth_4 : decode cX14_worth 4 = .ok (.invokeinterface 13 1, 5) := by decide +kernel
theorem dX14_worth_9 : decode cX14_worth 9 = .ok (.ifCond .ne 7, 3) := dk_154 0 7 (dk_at dksX14_worth_0 9 rfl rfl)
theorem dX14_worth_12 : decode cX14_worth 12 = .ok (.iconst 1, 1) := dk_4 (dk_at dksX14_worth_0 12 rfl rfl)
theorem dX14_worth_13 : decode cX14_worth 13 = .ok (.goto 4, 3) := dk_167 0 4 (dk_at dksX14_worth_0 13 rfl rfl)
theorem dX14_worth_16 : decode cX14_worth 16 = .ok (.iconst 0, 1) := dk_3 (dk_at dksX14_worth_0 16 rfl rfl)
theorem dX14_worth_17 : decode cX14_worth 17 = .ok (.ireturn, 1) := dk_172 (dk_at dksX14_worth_0 17 rfl rfl)
abbrev cX14_init : ByteArray := prog_11_method_1_code
def yX14_init : MethodName := ⟨RX14, "<init>", "(LLevelCellars$Worth;)V"⟩
def dkwX14_init_0 : List UInt8 := [42, 183, 0, 1, 42, 43, 181, 0, 7, 177]
abbrev dktX14_init_0 : List UInt8 := dkwX14_init_0 ++ []
theorem dksX14_init_0 : cX14_init.data.toList.drop 0 = dktX14_init_0 := by decide +kernel
theorem dX14_init_0 : decode cX14_init 0 = .ok (.aload_n 0, 1) := dk_42 (dk_at dksX14_init_0 0 rfl rfl)
theorem dX14_init_1 : decode cX14_init 1 = .ok (.invokespecial 1, 3) := dk_183 0 1 (dk_at dksX14_init_0 1 rfl rfl)
theorem dX14_init_4 : decode cX14_init 4 = .ok (.aload_n 0, 1) := dk_42 (dk_at dksX14_init_0 4 rfl rfl)
theorem dX14_init_5 : decode cX14_init 5 = .ok (.aload_n 1, 1) := dk_43 (dk_at dksX14_init_0 5 rfl rfl)
theorem dX14_init_6 : decode cX14_init 6 = .ok (.putfield 7, 3) := dk_181 0 7 (dk_at dksX14_init_0 6 rfl rfl)
theorem dX14_init_9 : decode cX14_init 9 = .ok (.return_, 1) := dk_177 (dk_at dksX14_init_0 9 rfl rfl)
theorem q96 : (Jvm.Cond.initialized "LevelCellars$Not") ∈ lw_all := lw_g (lw_at lw_m1 25 rfl) rfl
theorem q471 : (Jvm.Cond.castable "LevelCellars$Not" "LevelCellars$Worth") ∈ lw_tbl := lw_at lw_m2 160 rfl
theorem q472 : (Jvm.Cond.selects "LevelCellars$Not" ({ cls := "LevelCellars$Worth", name := "worth", desc := "()I" } : Jvm.MethodName) ({ cls := "LevelCellars$Not", name := "worth", desc := "()I" } : Jvm.MethodName)) ∈ lw_all := lw_g (lw_at lw_m2 161 rfl) rfl
theorem q473 : (Jvm.Cond.unhidden "LevelCellars$Not" "worth" "()I") ∈ lw_tbl := lw_at lw_m2 162 rfl
theorem q474 : (Jvm.Cond.instanceMethod ({ cls := "LevelCellars$Not", name := "worth", desc := "()I" } : Jvm.MethodName)) ∈ lw_all := lw_g (lw_at lw_m2 163 rfl) rfl
theorem q475 : (Jvm.Cond.publicMethod ({ cls := "LevelCellars$Not", name := "worth", desc := "()I" } : Jvm.MethodName)) ∈ lw_tbl := lw_at lw_m2 164 rfl
theorem q476 : (Jvm.Cond.code ({ cls := "LevelCellars$Not", name := "worth", desc := "()I" } : Jvm.MethodName) prog_11_method_2_code (1 : Nat) (Option.some Jvm.ClassFile.FieldType.int)) ∈ lw_all := lw_g (lw_at lw_m2 165 rfl) rfl
theorem q477 : (Jvm.Cond.interfaceEntry "LevelCellars$Not" (13 : Nat)) ∈ lw_tbl := lw_at lw_m2 166 rfl
theorem q478 : (Jvm.Cond.methodLink "LevelCellars$Not" (13 : Nat) ({ cls := "LevelCellars$Worth", name := "worth", desc := "()I" } : Jvm.MethodName)) ∈ lw_all := lw_g (lw_at lw_m2 167 rfl) rfl
theorem q1106 : (Jvm.Cond.instantiable "LevelCellars$Not" (1 : Nat)) ∈ lw_all := lw_g (lw_at lw_m5 75 rfl) rfl
theorem q1108 : (Jvm.Cond.instanceMethod ({ cls := "LevelCellars$Not", name := "<init>", desc := "(LLevelCellars$Worth;)V" } : Jvm.MethodName)) ∈ lw_all := lw_g (lw_at lw_m5 77 rfl) rfl
theorem q1109 : (Jvm.Cond.code ({ cls := "LevelCellars$Not", name := "<init>", desc := "(LLevelCellars$Worth;)V" } : Jvm.MethodName) prog_11_method_1_code (2 : Nat) (Option.none : Option Jvm.ClassFile.FieldType)) ∈ lw_all := lw_g (lw_at lw_m5 78 rfl) rfl
theorem q1110 : (Jvm.Cond.methodLink "LevelCellars$Not" (1 : Nat) ({ cls := "java/lang/Object", name := "<init>", desc := "()V" } : Jvm.MethodName)) ∈ lw_all := lw_g (lw_at lw_m5 79 rfl) rfl
theorem q1111 : (Jvm.Cond.fieldLink "LevelCellars$Not" (7 : Nat) "LevelCellars$Not" "of" "LLevelCellars$Worth;") ∈ lw_all := lw_g (lw_at lw_m5 80 rfl) rfl
theorem q1112 : (Jvm.Cond.laysFinal "LevelCellars$Not" "LevelCellars$Not" "of" "LLevelCellars$Worth;") ∈ lw_all := lw_g (lw_at lw_m5 81 rfl) rfl
theorem q1113 : (Jvm.Cond.soleField "LevelCellars$Not" "of") ∈ lw_all := lw_g (lw_at lw_m5 82 rfl) rfl
theorem q1114 : (Jvm.Cond.superclass "LevelCellars$Not" "java/lang/Object") ∈ lw_all := lw_g (lw_at lw_m5 83 rfl) rfl
theorem in_X14 : ∀ w ∈ wsX140, w ∈ lw_all := lw_in wsX140 [1112] (by decide +kernel) (by decide +kernel)
/-! LevelCellars$Text -/
set_option maxRecDepth 100000
def RX15 : String := "LevelCellars$Text"
def TX15 : u_T := fun k => match k with
  | 0 => ("LevelCellars$Text", "key", "I", true)
  | 1 => ("LevelCellars$Text", "words", "I", true)
  | _ => ("LevelCellars$Text", "e", "LLevelCellars$Worth;", true)
def tyX15 : Nat → FieldType := fun k => match k with
  | 0 => .int
  | 1 => .int
  | _ => .object "LevelCellars$Worth"
abbrev wsX150 : List Cond := u_ws RX15 TX15 3
theorem nmX15 : ∀ a, a < 3 → ∀ b, b < 3 → a ≠ b → (TX15 a).2.1 ≠ (TX15 b).2.1 := by decide +kernel
theorem tyX15_ok : ∀ k, k < 3 → parseFieldDescriptor (TX15 k).2.2.1 = some (tyX15 k) := by decide +kernel
abbrev cX15_init : ByteArray := prog_15_method_1_code
def yX15_init : MethodName := ⟨RX15, "<init>", "(IILLevelCellars$Worth;)V"⟩
def dkwX15_init_0 : List UInt8 := [42, 183, 0, 1, 42, 27, 181, 0, 7, 42, 28, 181, 0, 13, 42, 45, 181, 0, 16, 177]
abbrev dktX15_init_0 : List UInt8 := dkwX15_init_0 ++ []
theorem dksX15_init_0 : cX15_init.data.toList.drop 0 = dktX15_init_0 := by decide +kernel
theorem dX15_init_0 : decode cX15_init 0 = .ok (.aload_n 0, 1) := dk_42 (dk_at dksX15_init_0 0 rfl rfl)
theorem dX15_init_1 : decode cX15_init 1 = .ok (.invokespecial 1, 3) := dk_183 0 1 (dk_at dksX15_init_0 1 rfl rfl)
theorem dX15_init_4 : decode cX15_init 4 = .ok (.aload_n 0, 1) := dk_42 (dk_at dksX15_init_0 4 rfl rfl)
theorem dX15_init_5 : decode cX15_init 5 = .ok (.iload_n 1, 1) := dk_27 (dk_at dksX15_init_0 5 rfl rfl)
theorem dX15_init_6 : decode cX15_init 6 = .ok (.putfield 7, 3) := dk_181 0 7 (dk_at dksX15_init_0 6 rfl rfl)
theorem dX15_init_9 : decode cX15_init 9 = .ok (.aload_n 0, 1) := dk_42 (dk_at dksX15_init_0 9 rfl rfl)
theorem dX15_init_10 : decode cX15_init 10 = .ok (.iload_n 2, 1) := dk_28 (dk_at dksX15_init_0 10 rfl rfl)
theorem dX15_init_11 : decode cX15_init 11 = .ok (.putfield 13, 3) := dk_181 0 13 (dk_at dksX15_init_0 11 rfl rfl)
theorem dX15_init_14 : decode cX15_init 14 = .ok (.aload_n 0, 1) := dk_42 (dk_at dksX15_init_0 14 rfl rfl)
theorem dX15_init_15 : decode cX15_init 15 = .ok (.aload_n 3, 1) := dk_45 (dk_at dksX15_init_0 15 rfl rfl)
theorem dX15_init_16 : decode cX15_init 16 = .ok (.putfield 16, 3) := dk_181 0 16 (dk_at dksX15_init_0 16 rfl rfl)
theorem dX15_init_19 : decode cX15_init 19 = .ok (.return_, 1) := dk_177 (dk_at dksX15_init_0 19 rfl rfl)
theorem q97 : (Jvm.Cond.initialized "LevelCellars$Text") ∈ lw_all := lw_g (lw_at lw_m1 26 rfl) rfl
theorem q1132 : (Jvm.Cond.instantiable "LevelCellars$Text" (3 : Nat)) ∈ lw_all := lw_g (lw_at lw_m5 101 rfl) rfl
theorem q1134 : (Jvm.Cond.instanceMethod ({ cls := "LevelCellars$Text", name := "<init>", desc := "(IILLevelCellars$Worth;)V" } : Jvm.MethodName)) ∈ lw_all := lw_g (lw_at lw_m5 103 rfl) rfl
theorem q1135 : (Jvm.Cond.code ({ cls := "LevelCellars$Text", name := "<init>", desc := "(IILLevelCellars$Worth;)V" } : Jvm.MethodName) prog_15_method_1_code (4 : Nat) (Option.none : Option Jvm.ClassFile.FieldType)) ∈ lw_all := lw_g (lw_at lw_m5 104 rfl) rfl
theorem q1136 : (Jvm.Cond.methodLink "LevelCellars$Text" (1 : Nat) ({ cls := "java/lang/Object", name := "<init>", desc := "()V" } : Jvm.MethodName)) ∈ lw_all := lw_g (lw_at lw_m5 105 rfl) rfl
theorem q1137 : (Jvm.Cond.fieldLink "LevelCellars$Text" (7 : Nat) "LevelCellars$Text" "key" "I") ∈ lw_all := lw_g (lw_at lw_m5 106 rfl) rfl
theorem q1139 : (Jvm.Cond.fieldLink "LevelCellars$Text" (13 : Nat) "LevelCellars$Text" "words" "I") ∈ lw_all := lw_g (lw_at lw_m5 108 rfl) rfl
theorem q1141 : (Jvm.Cond.fieldLink "LevelCellars$Text" (16 : Nat) "LevelCellars$Text" "e" "LLevelCellars$Worth;") ∈ lw_all := lw_g (lw_at lw_m5 110 rfl) rfl
theorem q1143 : (Jvm.Cond.laysFinal "LevelCellars$Text" "LevelCellars$Text" "key" "I") ∈ lw_all := lw_g (lw_at lw_m5 112 rfl) rfl
theorem q1144 : (Jvm.Cond.soleField "LevelCellars$Text" "key") ∈ lw_all := lw_g (lw_at lw_m5 113 rfl) rfl
theorem q1145 : (Jvm.Cond.laysFinal "LevelCellars$Text" "LevelCellars$Text" "words" "I") ∈ lw_all := lw_g (lw_at lw_m5 114 rfl) rfl
theorem q1146 : (Jvm.Cond.soleField "LevelCellars$Text" "words") ∈ lw_all := lw_g (lw_at lw_m5 115 rfl) rfl
theorem q1147 : (Jvm.Cond.laysFinal "LevelCellars$Text" "LevelCellars$Text" "e" "LLevelCellars$Worth;") ∈ lw_all := lw_g (lw_at lw_m5 116 rfl) rfl
theorem q1148 : (Jvm.Cond.soleField "LevelCellars$Text" "e") ∈ lw_all := lw_g (lw_at lw_m5 117 rfl) rfl
theorem q1149 : (Jvm.Cond.superclass "LevelCellars$Text" "java/lang/Object") ∈ lw_all := lw_g (lw_at lw_m5 118 rfl) rfl
theorem in_X15 : ∀ w ∈ wsX150, w ∈ lw_all := lw_in wsX150 [1143, 1145, 1147] (by decide +kernel) (by decide +kernel)
/-! LevelCellars$Figure -/
set_option maxRecDepth 100000
def RX16 : String := "LevelCellars$Figure"
def TX16 : u_T := fun k => match k with
  | _ => ("LevelCellars$Figure", "v", "I", true)
def tyX16 : Nat → FieldType := fun k => match k with
  | _ => .int
abbrev wsX160 : List Cond := u_ws RX16 TX16 1
theorem nmX16 : ∀ a, a < 1 → ∀ b, b < 1 → a ≠ b → (TX16 a).2.1 ≠ (TX16 b).2.1 := by decide +kernel
theorem tyX16_ok : ∀ k, k < 1 → parseFieldDescriptor (TX16 k).2.2.1 = some (tyX16 k) := by decide +kernel
abbrev cX16_init : ByteArray := prog_6_method_1_code
def yX16_init : MethodName := ⟨RX16, "<init>", "(I)V"⟩
def dkwX16_init_0 : List UInt8 := [42, 183, 0, 1, 42, 27, 181, 0, 7, 177]
abbrev dktX16_init_0 : List UInt8 := dkwX16_init_0 ++ []
theorem dksX16_init_0 : cX16_init.data.toList.drop 0 = dktX16_init_0 := by decide +kernel
theorem dX16_init_0 : decode cX16_init 0 = .ok (.aload_n 0, 1) := dk_42 (dk_at dksX16_init_0 0 rfl rfl)
theorem dX16_init_1 : decode cX16_init 1 = .ok (.invokespecial 1, 3) := dk_183 0 1 (dk_at dksX16_init_0 1 rfl rfl)
theorem dX16_init_4 : decode cX16_init 4 = .ok (.aload_n 0, 1) := dk_42 (dk_at dksX16_init_0 4 rfl rfl)
theorem dX16_init_5 : decode cX16_init 5 = .ok (.iload_n 1, 1) := dk_27 (dk_at dksX16_init_0 5 rfl rfl)
theorem dX16_init_6 : decode cX16_init 6 = .ok (.putfield 7, 3) := dk_181 0 7 (dk_at dksX16_init_0 6 rfl rfl)
theorem dX16_init_9 : decode cX16_init 9 = .ok (.return_, 1) := dk_177 (dk_at dksX16_init_0 9 rfl rfl)
theorem q102 : (Jvm.Cond.initialized "LevelCellars$Figure") ∈ lw_all := lw_g (lw_at lw_m1 31 rfl) rfl
theorem q1279 : (Jvm.Cond.instantiable "LevelCellars$Figure" (1 : Nat)) ∈ lw_all := lw_g (lw_at lw_m6 8 rfl) rfl
theorem q1281 : (Jvm.Cond.instanceMethod ({ cls := "LevelCellars$Figure", name := "<init>", desc := "(I)V" } : Jvm.MethodName)) ∈ lw_all := lw_g (lw_at lw_m6 10 rfl) rfl
theorem q1282 : (Jvm.Cond.code ({ cls := "LevelCellars$Figure", name := "<init>", desc := "(I)V" } : Jvm.MethodName) prog_6_method_1_code (2 : Nat) (Option.none : Option Jvm.ClassFile.FieldType)) ∈ lw_all := lw_g (lw_at lw_m6 11 rfl) rfl
theorem q1283 : (Jvm.Cond.methodLink "LevelCellars$Figure" (1 : Nat) ({ cls := "java/lang/Object", name := "<init>", desc := "()V" } : Jvm.MethodName)) ∈ lw_all := lw_g (lw_at lw_m6 12 rfl) rfl
theorem q1284 : (Jvm.Cond.fieldLink "LevelCellars$Figure" (7 : Nat) "LevelCellars$Figure" "v" "I") ∈ lw_all := lw_g (lw_at lw_m6 13 rfl) rfl
theorem q1286 : (Jvm.Cond.laysFinal "LevelCellars$Figure" "LevelCellars$Figure" "v" "I") ∈ lw_all := lw_g (lw_at lw_m6 15 rfl) rfl
theorem q1287 : (Jvm.Cond.soleField "LevelCellars$Figure" "v") ∈ lw_all := lw_g (lw_at lw_m6 16 rfl) rfl
theorem q1288 : (Jvm.Cond.superclass "LevelCellars$Figure" "java/lang/Object") ∈ lw_all := lw_g (lw_at lw_m6 17 rfl) rfl
theorem in_X16 : ∀ w ∈ wsX160, w ∈ lw_all := lw_in wsX160 [1286] (by decide +kernel) (by decide +kernel)
/-! LevelCellars$Stands -/
set_option maxRecDepth 100000
def RX17 : String := "LevelCellars$Stands"
abbrev cX17_above : ByteArray := prog_14_method_2_code
def yX17_above : MethodName := ⟨RX17, "above", "(I)I"⟩
def dkwX17_above_0 : List UInt8 := [27, 42, 185, 0, 1, 1, 0, 96, 172]
abbrev dktX17_above_0 : List UInt8 := dkwX17_above_0 ++ []
theorem dksX17_above_0 : cX17_above.data.toList.drop 0 = dktX17_above_0 := by decide +kernel
theorem dX17_above_0 : decode cX17_above 0 = .ok (.iload_n 1, 1) := dk_27 (dk_at dksX17_above_0 0 rfl rfl)
theorem dX17_above_1 : decode cX17_above 1 = .ok (.aload_n 0, 1) := dk_42 (dk_at dksX17_above_0 1 rfl rfl)
theorem dX17_above_2 : decode cX17_above 2 = .ok (.invokeinterface 1 1, 5) := by decide +kernel
theorem dX17_above_7 : decode cX17_above 7 = .ok (.iadd, 1) := dk_96 (dk_at dksX17_above_0 7 rfl rfl)
theorem dX17_above_8 : decode cX17_above 8 = .ok (.ireturn, 1) := dk_172 (dk_at dksX17_above_0 8 rfl rfl)
theorem q513 : (Jvm.Cond.declares ({ cls := "LevelCellars$Stands", name := "above", desc := "(I)I" } : Jvm.MethodName)) ∈ lw_tbl := lw_at lw_m2 202 rfl
theorem q520 : (Jvm.Cond.instanceMethod ({ cls := "LevelCellars$Stands", name := "above", desc := "(I)I" } : Jvm.MethodName)) ∈ lw_all := lw_g (lw_at lw_m2 209 rfl) rfl
theorem q521 : (Jvm.Cond.publicMethod ({ cls := "LevelCellars$Stands", name := "above", desc := "(I)I" } : Jvm.MethodName)) ∈ lw_tbl := lw_at lw_m2 210 rfl
theorem q522 : (Jvm.Cond.code ({ cls := "LevelCellars$Stands", name := "above", desc := "(I)I" } : Jvm.MethodName) prog_14_method_2_code (2 : Nat) (Option.some Jvm.ClassFile.FieldType.int)) ∈ lw_all := lw_g (lw_at lw_m2 211 rfl) rfl
theorem q523 : (Jvm.Cond.interfaceEntry "LevelCellars$Stands" (1 : Nat)) ∈ lw_tbl := lw_at lw_m2 212 rfl
theorem q524 : (Jvm.Cond.methodLink "LevelCellars$Stands" (1 : Nat) ({ cls := "LevelCellars$Stands", name := "high", desc := "()I" } : Jvm.MethodName)) ∈ lw_all := lw_g (lw_at lw_m2 213 rfl) rfl
theorem q525 : (Jvm.Cond.interfaceMethod "LevelCellars$Stands" "LevelCellars$Stands" "high" "()I") ∈ lw_tbl := lw_at lw_m2 214 rfl
theorem q526 : (Jvm.Cond.declares ({ cls := "LevelCellars$Stands", name := "high", desc := "()I" } : Jvm.MethodName)) ∈ lw_tbl := lw_at lw_m2 215 rfl
