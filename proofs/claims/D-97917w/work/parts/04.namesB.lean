theorem q60 : (Jvm.Cond.initialized "MeadowMilkLaw") ∈ lw_all := lw_g (lw_at lw_m1 0 rfl) rfl
set_option maxRecDepth 100000
theorem q97 : (Jvm.Cond.classLink "MeadowMilkLaw" (7 : Nat) "MeadowMilk") ∈ lw_all := lw_g (lw_at lw_m1 37 rfl) rfl
theorem q99 : (Jvm.Cond.methodLink "MeadowMilkLaw" (9 : Nat) ({ cls := "MeadowMilk", name := "<init>", desc := "()V" } : Jvm.MethodName)) ∈ lw_all := lw_g (lw_at lw_m1 39 rfl) rfl
theorem q323 : (Jvm.Cond.methodLink "MeadowMilkLaw" (13 : Nat) ({ cls := "MeadowMilk", name := "cell", desc := "(III)I" } : Jvm.MethodName)) ∈ lw_all := lw_g (lw_at lw_m2 23 rfl) rfl
theorem q346 : (Jvm.Cond.methodLink "MeadowMilkLaw" (18 : Nat) ({ cls := "MeadowMilk", name := "ofCell", desc := "(II)I" } : Jvm.MethodName)) ∈ lw_all := lw_g (lw_at lw_m2 46 rfl) rfl
theorem q391 : (Jvm.Cond.methodLink "MeadowMilkLaw" (23 : Nat) ({ cls := "MeadowMilk", name := "grows", desc := "(I)I" } : Jvm.MethodName)) ∈ lw_all := lw_g (lw_at lw_m2 91 rfl) rfl
theorem q395 : (Jvm.Cond.methodLink "MeadowMilkLaw" (28 : Nat) ({ cls := "MeadowMilk", name := "cow", desc := "(II)I" } : Jvm.MethodName)) ∈ lw_all := lw_g (lw_at lw_m2 95 rfl) rfl
theorem q504 : (Jvm.Cond.methodLink "MeadowMilkLaw" (32 : Nat) ({ cls := "MeadowMilk", name := "ofCow", desc := "(II)I" } : Jvm.MethodName)) ∈ lw_all := lw_g (lw_at lw_m2 204 rfl) rfl
theorem q622 : (Jvm.Cond.methodLink "MeadowMilkLaw" (36 : Nat) ({ cls := "MeadowMilk", name := "milk", desc := "(II)I" } : Jvm.MethodName)) ∈ lw_all := lw_g (lw_at lw_m3 82 rfl) rfl
theorem q627 : (Jvm.Cond.methodLink "MeadowMilkLaw" (40 : Nat) ({ cls := "MeadowMilk", name := "become", desc := "(II)I" } : Jvm.MethodName)) ∈ lw_all := lw_g (lw_at lw_m3 87 rfl) rfl
theorem q631 : (Jvm.Cond.methodLink "MeadowMilkLaw" (44 : Nat) ({ cls := "MeadowMilk", name := "as", desc := "(II)I" } : Jvm.MethodName)) ∈ lw_all := lw_g (lw_at lw_m3 91 rfl) rfl
theorem q664 : (Jvm.Cond.methodLink "MeadowMilkLaw" (48 : Nat) ({ cls := "MeadowMilk", name := "put", desc := "(II)I" } : Jvm.MethodName)) ∈ lw_all := lw_g (lw_at lw_m3 124 rfl) rfl
theorem q668 : (Jvm.Cond.methodLink "MeadowMilkLaw" (52 : Nat) ({ cls := "MeadowMilk", name := "dry", desc := "(I)I" } : Jvm.MethodName)) ∈ lw_all := lw_g (lw_at lw_m3 128 rfl) rfl
theorem q672 : (Jvm.Cond.methodLink "MeadowMilkLaw" (58 : Nat) ({ cls := "MeadowMilk", name := "feed", desc := "(JI)I" } : Jvm.MethodName)) ∈ lw_all := lw_g (lw_at lw_m3 132 rfl) rfl
theorem q676 : (Jvm.Cond.methodLink "MeadowMilkLaw" (63 : Nat) ({ cls := "MeadowMilk", name := "text", desc := "(I)I" } : Jvm.MethodName)) ∈ lw_all := lw_g (lw_at lw_m3 136 rfl) rfl
theorem q907 : (Jvm.Cond.methodLink "MeadowMilkLaw" (67 : Nat) ({ cls := "MeadowMilk", name := "law", desc := "(IIII)I" } : Jvm.MethodName)) ∈ lw_all := lw_g (lw_at lw_m4 127 rfl) rfl
theorem q916 : (Jvm.Cond.methodLink "MeadowMilkLaw" (72 : Nat) ({ cls := "MeadowMilk", name := "days", desc := "(I)I" } : Jvm.MethodName)) ∈ lw_all := lw_g (lw_at lw_m4 136 rfl) rfl
theorem q939 : (Jvm.Cond.methodLink "MeadowMilkLaw" (76 : Nat) ({ cls := "MeadowMilk", name := "loose", desc := "(I)I" } : Jvm.MethodName)) ∈ lw_all := lw_g (lw_at lw_m4 159 rfl) rfl
theorem q952 : (Jvm.Cond.methodLink "MeadowMilkLaw" (80 : Nat) ({ cls := "MeadowMilk", name := "taste", desc := "(II)I" } : Jvm.MethodName)) ∈ lw_all := lw_g (lw_at lw_m4 172 rfl) rfl
theorem q971 : (Jvm.Cond.methodLink "MeadowMilkLaw" (84 : Nat) ({ cls := "MeadowMilk", name := "known", desc := "(II)I" } : Jvm.MethodName)) ∈ lw_all := lw_g (lw_at lw_m4 191 rfl) rfl
theorem q987 : (Jvm.Cond.methodLink "MeadowMilkLaw" (88 : Nat) ({ cls := "MeadowMilk", name := "comes", desc := "(II)I" } : Jvm.MethodName)) ∈ lw_all := lw_g (lw_at lw_m4 207 rfl) rfl
theorem q996 : (Jvm.Cond.methodLink "MeadowMilkLaw" (92 : Nat) ({ cls := "MeadowMilk", name := "lost", desc := "(II)I" } : Jvm.MethodName)) ∈ lw_all := lw_g (lw_at lw_m4 216 rfl) rfl
theorem q1000 : (Jvm.Cond.methodLink "MeadowMilkLaw" (96 : Nat) ({ cls := "MeadowMilk", name := "least", desc := "(I)I" } : Jvm.MethodName)) ∈ lw_all := lw_g (lw_at lw_m4 220 rfl) rfl
theorem q1006 : (Jvm.Cond.methodLink "MeadowMilkLaw" (100 : Nat) ({ cls := "MeadowMilk", name := "borders", desc := "(II)I" } : Jvm.MethodName)) ∈ lw_all := lw_g (lw_at lw_m4 226 rfl) rfl
theorem q1012 : (Jvm.Cond.methodLink "MeadowMilkLaw" (104 : Nat) ({ cls := "MeadowMilk", name := "then", desc := "(III)I" } : Jvm.MethodName)) ∈ lw_all := lw_g (lw_at lw_m4 232 rfl) rfl
theorem q1016 : (Jvm.Cond.methodLink "MeadowMilkLaw" (108 : Nat) ({ cls := "MeadowMilk", name := "walked", desc := "(II)I" } : Jvm.MethodName)) ∈ lw_all := lw_g (lw_at lw_m4 236 rfl) rfl
theorem q1063 : (Jvm.Cond.methodLink "MeadowMilkLaw" (112 : Nat) ({ cls := "MeadowMilk", name := "well", desc := "(I)I" } : Jvm.MethodName)) ∈ lw_all := lw_g (lw_at lw_m5 43 rfl) rfl
theorem q1068 : (Jvm.Cond.methodLink "MeadowMilkLaw" (116 : Nat) ({ cls := "MeadowMilk", name := "hays", desc := "(III)I" } : Jvm.MethodName)) ∈ lw_all := lw_g (lw_at lw_m5 48 rfl) rfl
theorem q1076 : (Jvm.Cond.methodLink "MeadowMilkLaw" (120 : Nat) ({ cls := "MeadowMilk", name := "near", desc := "(I)I" } : Jvm.MethodName)) ∈ lw_all := lw_g (lw_at lw_m5 56 rfl) rfl
theorem q1086 : (Jvm.Cond.methodLink "MeadowMilkLaw" (124 : Nat) ({ cls := "MeadowMilk", name := "seed", desc := "(I)I" } : Jvm.MethodName)) ∈ lw_all := lw_g (lw_at lw_m5 66 rfl) rfl
theorem q1090 : (Jvm.Cond.methodLink "MeadowMilkLaw" (128 : Nat) ({ cls := "MeadowMilk", name := "voice", desc := "(III)I" } : Jvm.MethodName)) ∈ lw_all := lw_g (lw_at lw_m5 70 rfl) rfl
theorem q1263 : (Jvm.Cond.methodLink "MeadowMilkLaw" (132 : Nat) ({ cls := "MeadowMilk", name := "trace", desc := "(I)I" } : Jvm.MethodName)) ∈ lw_all := lw_g (lw_at lw_m6 3 rfl) rfl
theorem q1267 : (Jvm.Cond.methodLink "MeadowMilkLaw" (149 : Nat) ({ cls := "MeadowMilk", name := "marks", desc := "(I)I" } : Jvm.MethodName)) ∈ lw_all := lw_g (lw_at lw_m6 7 rfl) rfl
theorem q1274 : (Jvm.Cond.methodLink "MeadowMilkLaw" (153 : Nat) ({ cls := "MeadowMilk", name := "judge", desc := "(II)I" } : Jvm.MethodName)) ∈ lw_all := lw_g (lw_at lw_m6 14 rfl) rfl
theorem q1278 : (Jvm.Cond.methodLink "MeadowMilkLaw" (136 : Nat) ({ cls := "MeadowMilk", name := "sheet", desc := "(III)I" } : Jvm.MethodName)) ∈ lw_all := lw_g (lw_at lw_m6 18 rfl) rfl
theorem q1319 : (Jvm.Cond.methodLink "MeadowMilkLaw" (140 : Nat) ({ cls := "MeadowMilk", name := "write", desc := "(III)I" } : Jvm.MethodName)) ∈ lw_all := lw_g (lw_at lw_m6 59 rfl) rfl
theorem q1335 : (Jvm.Cond.methodLink "MeadowMilkLaw" (144 : Nat) ({ cls := "MeadowMilk", name := "move", desc := "(IIIII)I" } : Jvm.MethodName)) ∈ lw_all := lw_g (lw_at lw_m6 75 rfl) rfl
theorem q1360 : (Jvm.Cond.methodLink "MeadowMilkLaw" (157 : Nat) ({ cls := "MeadowMilk", name := "image", desc := "()I" } : Jvm.MethodName)) ∈ lw_all := lw_g (lw_at lw_m6 100 rfl) rfl
theorem q1364 : (Jvm.Cond.methodLink "MeadowMilkLaw" (162 : Nat) ({ cls := "MeadowMilk", name := "restore", desc := "()I" } : Jvm.MethodName)) ∈ lw_all := lw_g (lw_at lw_m6 104 rfl) rfl
theorem q1368 : (Jvm.Cond.methodLink "MeadowMilkLaw" (166 : Nat) ({ cls := "MeadowMilk", name := "tell", desc := "(I)I" } : Jvm.MethodName)) ∈ lw_all := lw_g (lw_at lw_m6 108 rfl) rfl
theorem q1372 : (Jvm.Cond.methodLink "MeadowMilkLaw" (170 : Nat) ({ cls := "MeadowMilk", name := "check", desc := "()I" } : Jvm.MethodName)) ∈ lw_all := lw_g (lw_at lw_m6 112 rfl) rfl
theorem q1376 : (Jvm.Cond.methodLink "MeadowMilkLaw" (174 : Nat) ({ cls := "MeadowMilk", name := "count", desc := "(I)I" } : Jvm.MethodName)) ∈ lw_all := lw_g (lw_at lw_m6 116 rfl) rfl
theorem q1380 : (Jvm.Cond.methodLink "MeadowMilkLaw" (178 : Nat) ({ cls := "MeadowMilk", name := "told", desc := "(I)I" } : Jvm.MethodName)) ∈ lw_all := lw_g (lw_at lw_m6 120 rfl) rfl
theorem q1384 : (Jvm.Cond.classLink "MeadowMilkLaw" (10 : Nat) "MeadowMilkModel") ∈ lw_all := lw_g (lw_at lw_m6 124 rfl) rfl
theorem q1386 : (Jvm.Cond.methodLink "MeadowMilkLaw" (12 : Nat) ({ cls := "MeadowMilkModel", name := "<init>", desc := "()V" } : Jvm.MethodName)) ∈ lw_all := lw_g (lw_at lw_m6 126 rfl) rfl
theorem q1475 : (Jvm.Cond.methodLink "MeadowMilkLaw" (17 : Nat) ({ cls := "MeadowMilkModel", name := "cell", desc := "(III)I" } : Jvm.MethodName)) ∈ lw_all := lw_g (lw_at lw_m6 215 rfl) rfl
theorem q1491 : (Jvm.Cond.methodLink "MeadowMilkLaw" (27 : Nat) ({ cls := "MeadowMilkModel", name := "grows", desc := "(I)I" } : Jvm.MethodName)) ∈ lw_all := lw_g (lw_at lw_m6 231 rfl) rfl
theorem q1495 : (Jvm.Cond.methodLink "MeadowMilkLaw" (22 : Nat) ({ cls := "MeadowMilkModel", name := "ofCell", desc := "(II)I" } : Jvm.MethodName)) ∈ lw_all := lw_g (lw_at lw_m6 235 rfl) rfl
theorem q1561 : (Jvm.Cond.methodLink "MeadowMilkLaw" (31 : Nat) ({ cls := "MeadowMilkModel", name := "cow", desc := "(II)I" } : Jvm.MethodName)) ∈ lw_all := lw_g (lw_at lw_m7 61 rfl) rfl
theorem q1570 : (Jvm.Cond.methodLink "MeadowMilkLaw" (35 : Nat) ({ cls := "MeadowMilkModel", name := "ofCow", desc := "(II)I" } : Jvm.MethodName)) ∈ lw_all := lw_g (lw_at lw_m7 70 rfl) rfl
theorem q1601 : (Jvm.Cond.methodLink "MeadowMilkLaw" (39 : Nat) ({ cls := "MeadowMilkModel", name := "milk", desc := "(II)I" } : Jvm.MethodName)) ∈ lw_all := lw_g (lw_at lw_m7 101 rfl) rfl
theorem q1606 : (Jvm.Cond.methodLink "MeadowMilkLaw" (43 : Nat) ({ cls := "MeadowMilkModel", name := "become", desc := "(II)I" } : Jvm.MethodName)) ∈ lw_all := lw_g (lw_at lw_m7 106 rfl) rfl
theorem q1610 : (Jvm.Cond.methodLink "MeadowMilkLaw" (47 : Nat) ({ cls := "MeadowMilkModel", name := "as", desc := "(II)I" } : Jvm.MethodName)) ∈ lw_all := lw_g (lw_at lw_m7 110 rfl) rfl
theorem q1618 : (Jvm.Cond.methodLink "MeadowMilkLaw" (51 : Nat) ({ cls := "MeadowMilkModel", name := "put", desc := "(II)I" } : Jvm.MethodName)) ∈ lw_all := lw_g (lw_at lw_m7 118 rfl) rfl
theorem q1622 : (Jvm.Cond.methodLink "MeadowMilkLaw" (55 : Nat) ({ cls := "MeadowMilkModel", name := "dry", desc := "(I)I" } : Jvm.MethodName)) ∈ lw_all := lw_g (lw_at lw_m7 122 rfl) rfl
theorem q1626 : (Jvm.Cond.methodLink "MeadowMilkLaw" (71 : Nat) ({ cls := "MeadowMilkModel", name := "law", desc := "(IIII)I" } : Jvm.MethodName)) ∈ lw_all := lw_g (lw_at lw_m7 126 rfl) rfl
theorem q1630 : (Jvm.Cond.methodLink "MeadowMilkLaw" (62 : Nat) ({ cls := "MeadowMilkModel", name := "feed", desc := "(JI)I" } : Jvm.MethodName)) ∈ lw_all := lw_g (lw_at lw_m7 130 rfl) rfl
theorem q1635 : (Jvm.Cond.methodLink "MeadowMilkLaw" (66 : Nat) ({ cls := "MeadowMilkModel", name := "text", desc := "(I)I" } : Jvm.MethodName)) ∈ lw_all := lw_g (lw_at lw_m7 135 rfl) rfl
theorem q1643 : (Jvm.Cond.methodLink "MeadowMilkLaw" (75 : Nat) ({ cls := "MeadowMilkModel", name := "days", desc := "(I)I" } : Jvm.MethodName)) ∈ lw_all := lw_g (lw_at lw_m7 143 rfl) rfl
theorem q1664 : (Jvm.Cond.methodLink "MeadowMilkLaw" (79 : Nat) ({ cls := "MeadowMilkModel", name := "loose", desc := "(I)I" } : Jvm.MethodName)) ∈ lw_all := lw_g (lw_at lw_m7 164 rfl) rfl
theorem q1673 : (Jvm.Cond.methodLink "MeadowMilkLaw" (83 : Nat) ({ cls := "MeadowMilkModel", name := "taste", desc := "(II)I" } : Jvm.MethodName)) ∈ lw_all := lw_g (lw_at lw_m7 173 rfl) rfl
theorem q1689 : (Jvm.Cond.methodLink "MeadowMilkLaw" (87 : Nat) ({ cls := "MeadowMilkModel", name := "known", desc := "(II)I" } : Jvm.MethodName)) ∈ lw_all := lw_g (lw_at lw_m7 189 rfl) rfl
theorem q1697 : (Jvm.Cond.methodLink "MeadowMilkLaw" (91 : Nat) ({ cls := "MeadowMilkModel", name := "comes", desc := "(II)I" } : Jvm.MethodName)) ∈ lw_all := lw_g (lw_at lw_m7 197 rfl) rfl
theorem q1705 : (Jvm.Cond.methodLink "MeadowMilkLaw" (95 : Nat) ({ cls := "MeadowMilkModel", name := "lost", desc := "(II)I" } : Jvm.MethodName)) ∈ lw_all := lw_g (lw_at lw_m7 205 rfl) rfl
theorem q1709 : (Jvm.Cond.methodLink "MeadowMilkLaw" (99 : Nat) ({ cls := "MeadowMilkModel", name := "least", desc := "(I)I" } : Jvm.MethodName)) ∈ lw_all := lw_g (lw_at lw_m7 209 rfl) rfl
theorem q1714 : (Jvm.Cond.methodLink "MeadowMilkLaw" (103 : Nat) ({ cls := "MeadowMilkModel", name := "borders", desc := "(II)I" } : Jvm.MethodName)) ∈ lw_all := lw_g (lw_at lw_m7 214 rfl) rfl
theorem q1718 : (Jvm.Cond.methodLink "MeadowMilkLaw" (107 : Nat) ({ cls := "MeadowMilkModel", name := "then", desc := "(III)I" } : Jvm.MethodName)) ∈ lw_all := lw_g (lw_at lw_m7 218 rfl) rfl
theorem q1722 : (Jvm.Cond.methodLink "MeadowMilkLaw" (111 : Nat) ({ cls := "MeadowMilkModel", name := "walked", desc := "(II)I" } : Jvm.MethodName)) ∈ lw_all := lw_g (lw_at lw_m7 222 rfl) rfl
theorem q1734 : (Jvm.Cond.methodLink "MeadowMilkLaw" (115 : Nat) ({ cls := "MeadowMilkModel", name := "well", desc := "(I)I" } : Jvm.MethodName)) ∈ lw_all := lw_g (lw_at lw_m7 234 rfl) rfl
theorem q1738 : (Jvm.Cond.methodLink "MeadowMilkLaw" (119 : Nat) ({ cls := "MeadowMilkModel", name := "hays", desc := "(III)I" } : Jvm.MethodName)) ∈ lw_all := lw_g (lw_at lw_m7 238 rfl) rfl
theorem q1742 : (Jvm.Cond.methodLink "MeadowMilkLaw" (123 : Nat) ({ cls := "MeadowMilkModel", name := "near", desc := "(I)I" } : Jvm.MethodName)) ∈ lw_all := lw_g (lw_at lw_m8 2 rfl) rfl
theorem q1749 : (Jvm.Cond.methodLink "MeadowMilkLaw" (127 : Nat) ({ cls := "MeadowMilkModel", name := "seed", desc := "(I)I" } : Jvm.MethodName)) ∈ lw_all := lw_g (lw_at lw_m8 9 rfl) rfl
theorem q1753 : (Jvm.Cond.methodLink "MeadowMilkLaw" (131 : Nat) ({ cls := "MeadowMilkModel", name := "voice", desc := "(III)I" } : Jvm.MethodName)) ∈ lw_all := lw_g (lw_at lw_m8 13 rfl) rfl
theorem q1777 : (Jvm.Cond.methodLink "MeadowMilkLaw" (135 : Nat) ({ cls := "MeadowMilkModel", name := "trace", desc := "(I)I" } : Jvm.MethodName)) ∈ lw_all := lw_g (lw_at lw_m8 37 rfl) rfl
theorem q1781 : (Jvm.Cond.methodLink "MeadowMilkLaw" (139 : Nat) ({ cls := "MeadowMilkModel", name := "sheet", desc := "(III)I" } : Jvm.MethodName)) ∈ lw_all := lw_g (lw_at lw_m8 41 rfl) rfl
theorem q1785 : (Jvm.Cond.methodLink "MeadowMilkLaw" (143 : Nat) ({ cls := "MeadowMilkModel", name := "write", desc := "(III)I" } : Jvm.MethodName)) ∈ lw_all := lw_g (lw_at lw_m8 45 rfl) rfl
theorem q1792 : (Jvm.Cond.methodLink "MeadowMilkLaw" (148 : Nat) ({ cls := "MeadowMilkModel", name := "move", desc := "(IIIII)I" } : Jvm.MethodName)) ∈ lw_all := lw_g (lw_at lw_m8 52 rfl) rfl
theorem q1796 : (Jvm.Cond.methodLink "MeadowMilkLaw" (152 : Nat) ({ cls := "MeadowMilkModel", name := "marks", desc := "(I)I" } : Jvm.MethodName)) ∈ lw_all := lw_g (lw_at lw_m8 56 rfl) rfl
theorem q1800 : (Jvm.Cond.methodLink "MeadowMilkLaw" (156 : Nat) ({ cls := "MeadowMilkModel", name := "judge", desc := "(II)I" } : Jvm.MethodName)) ∈ lw_all := lw_g (lw_at lw_m8 60 rfl) rfl
theorem q1804 : (Jvm.Cond.methodLink "MeadowMilkLaw" (161 : Nat) ({ cls := "MeadowMilkModel", name := "image", desc := "()I" } : Jvm.MethodName)) ∈ lw_all := lw_g (lw_at lw_m8 64 rfl) rfl
theorem q1808 : (Jvm.Cond.methodLink "MeadowMilkLaw" (165 : Nat) ({ cls := "MeadowMilkModel", name := "restore", desc := "()I" } : Jvm.MethodName)) ∈ lw_all := lw_g (lw_at lw_m8 68 rfl) rfl
theorem q1812 : (Jvm.Cond.methodLink "MeadowMilkLaw" (169 : Nat) ({ cls := "MeadowMilkModel", name := "tell", desc := "(I)I" } : Jvm.MethodName)) ∈ lw_all := lw_g (lw_at lw_m8 72 rfl) rfl
theorem q1816 : (Jvm.Cond.methodLink "MeadowMilkLaw" (173 : Nat) ({ cls := "MeadowMilkModel", name := "check", desc := "()I" } : Jvm.MethodName)) ∈ lw_all := lw_g (lw_at lw_m8 76 rfl) rfl
theorem q1820 : (Jvm.Cond.methodLink "MeadowMilkLaw" (177 : Nat) ({ cls := "MeadowMilkModel", name := "count", desc := "(I)I" } : Jvm.MethodName)) ∈ lw_all := lw_g (lw_at lw_m8 80 rfl) rfl
theorem q1824 : (Jvm.Cond.methodLink "MeadowMilkLaw" (181 : Nat) ({ cls := "MeadowMilkModel", name := "told", desc := "(I)I" } : Jvm.MethodName)) ∈ lw_all := lw_g (lw_at lw_m8 84 rfl) rfl
theorem q1828 : (Jvm.Cond.constantLong "MeadowMilkLaw" (56 : Nat) (4294967295 : Int64)) ∈ lw_all := lw_g (lw_at lw_m8 88 rfl) rfl
theorem q1133 : (Jvm.Cond.interfaceMethod "MeadowMilk$Eats" "MeadowMilk$Eats" "eats" "(I)I") ∈ lw_tbl := lw_at lw_m5 113 rfl
set_option maxRecDepth 100000
theorem q1134 : (Jvm.Cond.declares ({ cls := "MeadowMilk$Eats", name := "eats", desc := "(I)I" } : Jvm.MethodName)) ∈ lw_tbl := lw_at lw_m5 114 rfl
theorem q1179 : (Jvm.Cond.interfaceMethod "MeadowMilk$Knows" "MeadowMilk$Knows" "knows" "(I)I") ∈ lw_tbl := lw_at lw_m5 159 rfl
set_option maxRecDepth 100000
theorem q1180 : (Jvm.Cond.declares ({ cls := "MeadowMilk$Knows", name := "knows", desc := "(I)I" } : Jvm.MethodName)) ∈ lw_tbl := lw_at lw_m5 160 rfl
theorem q1215 : (Jvm.Cond.interfaceMethod "MeadowMilk$Tells" "MeadowMilk$Tells" "tells" "(I)I") ∈ lw_tbl := lw_at lw_m5 195 rfl
set_option maxRecDepth 100000
theorem q1216 : (Jvm.Cond.declares ({ cls := "MeadowMilk$Tells", name := "tells", desc := "(I)I" } : Jvm.MethodName)) ∈ lw_tbl := lw_at lw_m5 196 rfl
theorem q1096 : (Jvm.Cond.interfaceMethod "MeadowMilk$Wants" "MeadowMilk$Wants" "wants" "(I)I") ∈ lw_tbl := lw_at lw_m5 76 rfl
set_option maxRecDepth 100000
theorem q1097 : (Jvm.Cond.declares ({ cls := "MeadowMilk$Wants", name := "wants", desc := "(I)I" } : Jvm.MethodName)) ∈ lw_tbl := lw_at lw_m5 77 rfl
theorem q92 : (Jvm.Cond.initialized "java/lang/System") ∈ lw_all := lw_g (lw_at lw_m1 32 rfl) rfl
set_option maxRecDepth 100000
theorem q980 : (Jvm.Cond.static ({ cls := "java/lang/System", name := "arraycopy", desc := "(Ljava/lang/Object;ILjava/lang/Object;II)V" } : Jvm.MethodName)) ∈ lw_all := lw_g (lw_at lw_m4 200 rfl) rfl
theorem q981 : (Jvm.Cond.native ({ cls := "java/lang/System", name := "arraycopy", desc := "(Ljava/lang/Object;ILjava/lang/Object;II)V" } : Jvm.MethodName)) ∈ lw_all := lw_g (lw_at lw_m4 201 rfl) rfl
theorem q181 : (Jvm.Cond.arrayOver (Jvm.ClassFile.FieldType.object "MeadowMilk$Cow")) ∈ lw_tbl := lw_at lw_m1 121 rfl
set_option maxRecDepth 100000
theorem q183 : (Jvm.Cond.arrayOver (Jvm.ClassFile.FieldType.object "MeadowMilk$Term")) ∈ lw_tbl := lw_at lw_m1 123 rfl
theorem q195 : (Jvm.Cond.arrayClass Jvm.ClassFile.FieldType.int) ∈ lw_all := lw_g (lw_at lw_m1 135 rfl) rfl
theorem q196 : (Jvm.Cond.arrayClass Jvm.ClassFile.FieldType.byte) ∈ lw_all := lw_g (lw_at lw_m1 136 rfl) rfl
theorem q276 : (Jvm.Cond.arrayOver (Jvm.ClassFile.FieldType.object "MeadowMilk$Shelf")) ∈ lw_tbl := lw_at lw_m1 216 rfl
theorem q1308 : (Jvm.Cond.arrayClass Jvm.ClassFile.FieldType.short) ∈ lw_all := lw_g (lw_at lw_m6 48 rfl) rfl
/-! java/lang/Object -/
set_option maxRecDepth 100000
def RJ10 : String := "java/lang/Object"
abbrev cJ10_init : ByteArray := object_method_1_code
def yJ10_init : MethodName := ⟨RJ10, "<init>", "()V"⟩
theorem dJ10_init_0 : decode cJ10_init 0 = .ok (.return_, 1) := by decide +kernel
theorem q103 : (Jvm.Cond.instanceMethod ({ cls := "java/lang/Object", name := "<init>", desc := "()V" } : Jvm.MethodName)) ∈ lw_all := lw_g (lw_at lw_m1 43 rfl) rfl
theorem q104 : (Jvm.Cond.code ({ cls := "java/lang/Object", name := "<init>", desc := "()V" } : Jvm.MethodName) object_method_1_code (1 : Nat) (Option.none : Option Jvm.ClassFile.FieldType)) ∈ lw_all := lw_g (lw_at lw_m1 44 rfl) rfl
/-! java/lang/Math -/
set_option maxRecDepth 100000
def RJ3 : String := "java/lang/Math"
abbrev cJ3_min : ByteArray := prog_34_method_69_code
def yJ3_min : MethodName := ⟨RJ3, "min", "(II)I"⟩
def dkwJ3_min_0 : List UInt8 := [26, 27, 163, 0, 7, 26, 167, 0, 4, 27, 172]
abbrev dktJ3_min_0 : List UInt8 := dkwJ3_min_0 ++ []
theorem dksJ3_min_0 : cJ3_min.data.toList.drop 0 = dktJ3_min_0 := by decide +kernel
theorem dJ3_min_0 : decode cJ3_min 0 = .ok (.iload_n 0, 1) := dk_26 (dk_at dksJ3_min_0 0 rfl rfl)
theorem dJ3_min_1 : decode cJ3_min 1 = .ok (.iload_n 1, 1) := dk_27 (dk_at dksJ3_min_0 1 rfl rfl)
theorem dJ3_min_2 : decode cJ3_min 2 = .ok (.if_icmp .gt 7, 3) := dk_163 0 7 (dk_at dksJ3_min_0 2 rfl rfl)
theorem dJ3_min_5 : decode cJ3_min 5 = .ok (.iload_n 0, 1) := dk_26 (dk_at dksJ3_min_0 5 rfl rfl)
theorem dJ3_min_6 : decode cJ3_min 6 = .ok (.goto 4, 3) := dk_167 0 4 (dk_at dksJ3_min_0 6 rfl rfl)
theorem dJ3_min_9 : decode cJ3_min 9 = .ok (.iload_n 1, 1) := dk_27 (dk_at dksJ3_min_0 9 rfl rfl)
theorem dJ3_min_10 : decode cJ3_min 10 = .ok (.ireturn, 1) := dk_172 (dk_at dksJ3_min_0 10 rfl rfl)
abbrev cJ3_max : ByteArray := prog_34_method_65_code
def yJ3_max : MethodName := ⟨RJ3, "max", "(II)I"⟩
def dkwJ3_max_0 : List UInt8 := [26, 27, 161, 0, 7, 26, 167, 0, 4, 27, 172]
abbrev dktJ3_max_0 : List UInt8 := dkwJ3_max_0 ++ []
theorem dksJ3_max_0 : cJ3_max.data.toList.drop 0 = dktJ3_max_0 := by decide +kernel
theorem dJ3_max_0 : decode cJ3_max 0 = .ok (.iload_n 0, 1) := dk_26 (dk_at dksJ3_max_0 0 rfl rfl)
theorem dJ3_max_1 : decode cJ3_max 1 = .ok (.iload_n 1, 1) := dk_27 (dk_at dksJ3_max_0 1 rfl rfl)
theorem dJ3_max_2 : decode cJ3_max 2 = .ok (.if_icmp .lt 7, 3) := dk_161 0 7 (dk_at dksJ3_max_0 2 rfl rfl)
theorem dJ3_max_5 : decode cJ3_max 5 = .ok (.iload_n 0, 1) := dk_26 (dk_at dksJ3_max_0 5 rfl rfl)
theorem dJ3_max_6 : decode cJ3_max 6 = .ok (.goto 4, 3) := dk_167 0 4 (dk_at dksJ3_max_0 6 rfl rfl)
theorem dJ3_max_9 : decode cJ3_max 9 = .ok (.iload_n 1, 1) := dk_27 (dk_at dksJ3_max_0 9 rfl rfl)
theorem dJ3_max_10 : decode cJ3_max 10 = .ok (.ireturn, 1) := dk_172 (dk_at dksJ3_max_0 10 rfl rfl)
abbrev cJ3_min_2 : ByteArray := prog_34_method_70_code
def yJ3_min_2 : MethodName := ⟨RJ3, "min", "(JJ)J"⟩
def dkwJ3_min_2_0 : List UInt8 := [30, 32, 148, 157, 0, 7, 30, 167, 0, 4, 32, 173]
abbrev dktJ3_min_2_0 : List UInt8 := dkwJ3_min_2_0 ++ []
theorem dksJ3_min_2_0 : cJ3_min_2.data.toList.drop 0 = dktJ3_min_2_0 := by decide +kernel
theorem dJ3_min_2_0 : decode cJ3_min_2 0 = .ok (.lload_n 0, 1) := dk_30 (dk_at dksJ3_min_2_0 0 rfl rfl)
theorem dJ3_min_2_1 : decode cJ3_min_2 1 = .ok (.lload_n 2, 1) := dk_32 (dk_at dksJ3_min_2_0 1 rfl rfl)
theorem dJ3_min_2_2 : decode cJ3_min_2 2 = .ok (.lcmp, 1) := dk_148 (dk_at dksJ3_min_2_0 2 rfl rfl)
theorem dJ3_min_2_3 : decode cJ3_min_2 3 = .ok (.ifCond .gt 7, 3) := dk_157 0 7 (dk_at dksJ3_min_2_0 3 rfl rfl)
theorem dJ3_min_2_6 : decode cJ3_min_2 6 = .ok (.lload_n 0, 1) := dk_30 (dk_at dksJ3_min_2_0 6 rfl rfl)
theorem dJ3_min_2_7 : decode cJ3_min_2 7 = .ok (.goto 4, 3) := dk_167 0 4 (dk_at dksJ3_min_2_0 7 rfl rfl)
theorem dJ3_min_2_10 : decode cJ3_min_2 10 = .ok (.lload_n 2, 1) := dk_32 (dk_at dksJ3_min_2_0 10 rfl rfl)
theorem dJ3_min_2_11 : decode cJ3_min_2 11 = .ok (.lreturn, 1) := dk_173 (dk_at dksJ3_min_2_0 11 rfl rfl)
abbrev cJ3_abs : ByteArray := prog_34_method_59_code
def yJ3_abs : MethodName := ⟨RJ3, "abs", "(I)I"⟩
def dkwJ3_abs_0 : List UInt8 := [26, 156, 0, 8, 26, 116, 167, 0, 4, 26, 172]
abbrev dktJ3_abs_0 : List UInt8 := dkwJ3_abs_0 ++ []
theorem dksJ3_abs_0 : cJ3_abs.data.toList.drop 0 = dktJ3_abs_0 := by decide +kernel
theorem dJ3_abs_0 : decode cJ3_abs 0 = .ok (.iload_n 0, 1) := dk_26 (dk_at dksJ3_abs_0 0 rfl rfl)
theorem dJ3_abs_1 : decode cJ3_abs 1 = .ok (.ifCond .ge 8, 3) := dk_156 0 8 (dk_at dksJ3_abs_0 1 rfl rfl)
theorem dJ3_abs_4 : decode cJ3_abs 4 = .ok (.iload_n 0, 1) := dk_26 (dk_at dksJ3_abs_0 4 rfl rfl)
theorem dJ3_abs_5 : decode cJ3_abs 5 = .ok (.ineg, 1) := dk_116 (dk_at dksJ3_abs_0 5 rfl rfl)
theorem dJ3_abs_6 : decode cJ3_abs 6 = .ok (.goto 4, 3) := dk_167 0 4 (dk_at dksJ3_abs_0 6 rfl rfl)
theorem dJ3_abs_9 : decode cJ3_abs 9 = .ok (.iload_n 0, 1) := dk_26 (dk_at dksJ3_abs_0 9 rfl rfl)
theorem dJ3_abs_10 : decode cJ3_abs 10 = .ok (.ireturn, 1) := dk_172 (dk_at dksJ3_abs_0 10 rfl rfl)
theorem q73 : (Jvm.Cond.initialized "java/lang/Math") ∈ lw_all := lw_g (lw_at lw_m1 13 rfl) rfl
theorem q386 : (Jvm.Cond.static ({ cls := "java/lang/Math", name := "min", desc := "(II)I" } : Jvm.MethodName)) ∈ lw_all := lw_g (lw_at lw_m2 86 rfl) rfl
theorem q387 : (Jvm.Cond.code ({ cls := "java/lang/Math", name := "min", desc := "(II)I" } : Jvm.MethodName) prog_34_method_69_code (2 : Nat) (Option.some Jvm.ClassFile.FieldType.int)) ∈ lw_all := lw_g (lw_at lw_m2 87 rfl) rfl
theorem q389 : (Jvm.Cond.static ({ cls := "java/lang/Math", name := "max", desc := "(II)I" } : Jvm.MethodName)) ∈ lw_all := lw_g (lw_at lw_m2 89 rfl) rfl
theorem q390 : (Jvm.Cond.code ({ cls := "java/lang/Math", name := "max", desc := "(II)I" } : Jvm.MethodName) prog_34_method_65_code (2 : Nat) (Option.some Jvm.ClassFile.FieldType.int)) ∈ lw_all := lw_g (lw_at lw_m2 90 rfl) rfl
theorem q1059 : (Jvm.Cond.static ({ cls := "java/lang/Math", name := "min", desc := "(JJ)J" } : Jvm.MethodName)) ∈ lw_all := lw_g (lw_at lw_m5 39 rfl) rfl
theorem q1060 : (Jvm.Cond.code ({ cls := "java/lang/Math", name := "min", desc := "(JJ)J" } : Jvm.MethodName) prog_34_method_70_code (4 : Nat) (Option.some Jvm.ClassFile.FieldType.long)) ∈ lw_all := lw_g (lw_at lw_m5 40 rfl) rfl
theorem q1084 : (Jvm.Cond.static ({ cls := "java/lang/Math", name := "abs", desc := "(I)I" } : Jvm.MethodName)) ∈ lw_all := lw_g (lw_at lw_m5 64 rfl) rfl
theorem q1085 : (Jvm.Cond.code ({ cls := "java/lang/Math", name := "abs", desc := "(I)I" } : Jvm.MethodName) prog_34_method_59_code (1 : Nat) (Option.some Jvm.ClassFile.FieldType.int)) ∈ lw_all := lw_g (lw_at lw_m5 65 rfl) rfl
/-! java/lang/Integer -/
set_option maxRecDepth 100000
def RJ9 : String := "java/lang/Integer"
abbrev cJ9_bitCount : ByteArray := prog_33_method_49_code
def yJ9_bitCount : MethodName := ⟨RJ9, "bitCount", "(I)I"⟩
def dkwJ9_bitCount_2 : List UInt8 := [26, 16, 63, 126, 172]
abbrev dktJ9_bitCount_2 : List UInt8 := dkwJ9_bitCount_2 ++ []
def dkwJ9_bitCount_1 : List UInt8 := [26, 26, 7, 124, 96, 19, 1, 11, 126, 59, 26, 26, 16, 8, 124, 96, 59, 26, 26, 16, 16, 124, 96, 59]
abbrev dktJ9_bitCount_1 : List UInt8 := dkwJ9_bitCount_1 ++ dktJ9_bitCount_2
def dkwJ9_bitCount_0 : List UInt8 := [26, 26, 4, 124, 19, 1, 9, 126, 100, 59, 26, 19, 1, 10, 126, 26, 5, 124, 19, 1, 10, 126, 96, 59]
abbrev dktJ9_bitCount_0 : List UInt8 := dkwJ9_bitCount_0 ++ dktJ9_bitCount_1
theorem dksJ9_bitCount_0 : cJ9_bitCount.data.toList.drop 0 = dktJ9_bitCount_0 := by decide +kernel
theorem dksJ9_bitCount_1 : cJ9_bitCount.data.toList.drop 24 = dktJ9_bitCount_1 := dk_seg dksJ9_bitCount_0 24 rfl rfl
theorem dksJ9_bitCount_2 : cJ9_bitCount.data.toList.drop 48 = dktJ9_bitCount_2 := dk_seg dksJ9_bitCount_1 24 rfl rfl
theorem dJ9_bitCount_0 : decode cJ9_bitCount 0 = .ok (.iload_n 0, 1) := dk_26 (dk_at dksJ9_bitCount_0 0 rfl rfl)
theorem dJ9_bitCount_1 : decode cJ9_bitCount 1 = .ok (.iload_n 0, 1) := dk_26 (dk_at dksJ9_bitCount_0 1 rfl rfl)
theorem dJ9_bitCount_2 : decode cJ9_bitCount 2 = .ok (.iconst 1, 1) := dk_4 (dk_at dksJ9_bitCount_0 2 rfl rfl)
theorem dJ9_bitCount_3 : decode cJ9_bitCount 3 = .ok (.iushr, 1) := dk_124 (dk_at dksJ9_bitCount_0 3 rfl rfl)
theorem dJ9_bitCount_4 : decode cJ9_bitCount 4 = .ok (.ldc_w 265, 3) := dk_19 1 9 (dk_at dksJ9_bitCount_0 4 rfl rfl)
theorem dJ9_bitCount_7 : decode cJ9_bitCount 7 = .ok (.iand, 1) := dk_126 (dk_at dksJ9_bitCount_0 7 rfl rfl)
theorem dJ9_bitCount_8 : decode cJ9_bitCount 8 = .ok (.isub, 1) := dk_100 (dk_at dksJ9_bitCount_0 8 rfl rfl)
theorem dJ9_bitCount_9 : decode cJ9_bitCount 9 = .ok (.istore_n 0, 1) := dk_59 (dk_at dksJ9_bitCount_0 9 rfl rfl)
theorem dJ9_bitCount_10 : decode cJ9_bitCount 10 = .ok (.iload_n 0, 1) := dk_26 (dk_at dksJ9_bitCount_0 10 rfl rfl)
theorem dJ9_bitCount_11 : decode cJ9_bitCount 11 = .ok (.ldc_w 266, 3) := dk_19 1 10 (dk_at dksJ9_bitCount_0 11 rfl rfl)
theorem dJ9_bitCount_14 : decode cJ9_bitCount 14 = .ok (.iand, 1) := dk_126 (dk_at dksJ9_bitCount_0 14 rfl rfl)
theorem dJ9_bitCount_15 : decode cJ9_bitCount 15 = .ok (.iload_n 0, 1) := dk_26 (dk_at dksJ9_bitCount_0 15 rfl rfl)
theorem dJ9_bitCount_16 : decode cJ9_bitCount 16 = .ok (.iconst 2, 1) := dk_5 (dk_at dksJ9_bitCount_0 16 rfl rfl)
theorem dJ9_bitCount_17 : decode cJ9_bitCount 17 = .ok (.iushr, 1) := dk_124 (dk_at dksJ9_bitCount_0 17 rfl rfl)
theorem dJ9_bitCount_18 : decode cJ9_bitCount 18 = .ok (.ldc_w 266, 3) := dk_19 1 10 (dk_at dksJ9_bitCount_0 18 rfl rfl)
theorem dJ9_bitCount_21 : decode cJ9_bitCount 21 = .ok (.iand, 1) := dk_126 (dk_at dksJ9_bitCount_0 21 rfl rfl)
theorem dJ9_bitCount_22 : decode cJ9_bitCount 22 = .ok (.iadd, 1) := dk_96 (dk_at dksJ9_bitCount_0 22 rfl rfl)
theorem dJ9_bitCount_23 : decode cJ9_bitCount 23 = .ok (.istore_n 0, 1) := dk_59 (dk_at dksJ9_bitCount_0 23 rfl rfl)
theorem dJ9_bitCount_24 : decode cJ9_bitCount 24 = .ok (.iload_n 0, 1) := dk_26 (dk_at dksJ9_bitCount_1 0 rfl rfl)
theorem dJ9_bitCount_25 : decode cJ9_bitCount 25 = .ok (.iload_n 0, 1) := dk_26 (dk_at dksJ9_bitCount_1 1 rfl rfl)
theorem dJ9_bitCount_26 : decode cJ9_bitCount 26 = .ok (.iconst 4, 1) := dk_7 (dk_at dksJ9_bitCount_1 2 rfl rfl)
theorem dJ9_bitCount_27 : decode cJ9_bitCount 27 = .ok (.iushr, 1) := dk_124 (dk_at dksJ9_bitCount_1 3 rfl rfl)
theorem dJ9_bitCount_28 : decode cJ9_bitCount 28 = .ok (.iadd, 1) := dk_96 (dk_at dksJ9_bitCount_1 4 rfl rfl)
theorem dJ9_bitCount_29 : decode cJ9_bitCount 29 = .ok (.ldc_w 267, 3) := dk_19 1 11 (dk_at dksJ9_bitCount_1 5 rfl rfl)
theorem dJ9_bitCount_32 : decode cJ9_bitCount 32 = .ok (.iand, 1) := dk_126 (dk_at dksJ9_bitCount_1 8 rfl rfl)
theorem dJ9_bitCount_33 : decode cJ9_bitCount 33 = .ok (.istore_n 0, 1) := dk_59 (dk_at dksJ9_bitCount_1 9 rfl rfl)
theorem dJ9_bitCount_34 : decode cJ9_bitCount 34 = .ok (.iload_n 0, 1) := dk_26 (dk_at dksJ9_bitCount_1 10 rfl rfl)
theorem dJ9_bitCount_35 : decode cJ9_bitCount 35 = .ok (.iload_n 0, 1) := dk_26 (dk_at dksJ9_bitCount_1 11 rfl rfl)
theorem dJ9_bitCount_36 : decode cJ9_bitCount 36 = .ok (.bipush 8, 2) := dk_16 8 (dk_at dksJ9_bitCount_1 12 rfl rfl)
theorem dJ9_bitCount_38 : decode cJ9_bitCount 38 = .ok (.iushr, 1) := dk_124 (dk_at dksJ9_bitCount_1 14 rfl rfl)
theorem dJ9_bitCount_39 : decode cJ9_bitCount 39 = .ok (.iadd, 1) := dk_96 (dk_at dksJ9_bitCount_1 15 rfl rfl)
theorem dJ9_bitCount_40 : decode cJ9_bitCount 40 = .ok (.istore_n 0, 1) := dk_59 (dk_at dksJ9_bitCount_1 16 rfl rfl)
theorem dJ9_bitCount_41 : decode cJ9_bitCount 41 = .ok (.iload_n 0, 1) := dk_26 (dk_at dksJ9_bitCount_1 17 rfl rfl)
theorem dJ9_bitCount_42 : decode cJ9_bitCount 42 = .ok (.iload_n 0, 1) := dk_26 (dk_at dksJ9_bitCount_1 18 rfl rfl)
theorem dJ9_bitCount_43 : decode cJ9_bitCount 43 = .ok (.bipush 16, 2) := dk_16 16 (dk_at dksJ9_bitCount_1 19 rfl rfl)
theorem dJ9_bitCount_45 : decode cJ9_bitCount 45 = .ok (.iushr, 1) := dk_124 (dk_at dksJ9_bitCount_1 21 rfl rfl)
theorem dJ9_bitCount_46 : decode cJ9_bitCount 46 = .ok (.iadd, 1) := dk_96 (dk_at dksJ9_bitCount_1 22 rfl rfl)
theorem dJ9_bitCount_47 : decode cJ9_bitCount 47 = .ok (.istore_n 0, 1) := dk_59 (dk_at dksJ9_bitCount_1 23 rfl rfl)
theorem dJ9_bitCount_48 : decode cJ9_bitCount 48 = .ok (.iload_n 0, 1) := dk_26 (dk_at dksJ9_bitCount_2 0 rfl rfl)
theorem dJ9_bitCount_49 : decode cJ9_bitCount 49 = .ok (.bipush 63, 2) := dk_16 63 (dk_at dksJ9_bitCount_2 1 rfl rfl)
theorem dJ9_bitCount_51 : decode cJ9_bitCount 51 = .ok (.iand, 1) := dk_126 (dk_at dksJ9_bitCount_2 3 rfl rfl)
theorem dJ9_bitCount_52 : decode cJ9_bitCount 52 = .ok (.ireturn, 1) := dk_172 (dk_at dksJ9_bitCount_2 4 rfl rfl)
theorem q91 : (Jvm.Cond.initialized "java/lang/Integer") ∈ lw_all := lw_g (lw_at lw_m1 31 rfl) rfl
theorem q965 : (Jvm.Cond.static ({ cls := "java/lang/Integer", name := "bitCount", desc := "(I)I" } : Jvm.MethodName)) ∈ lw_all := lw_g (lw_at lw_m4 185 rfl) rfl
theorem q966 : (Jvm.Cond.code ({ cls := "java/lang/Integer", name := "bitCount", desc := "(I)I" } : Jvm.MethodName) prog_33_method_49_code (1 : Nat) (Option.some Jvm.ClassFile.FieldType.int)) ∈ lw_all := lw_g (lw_at lw_m4 186 rfl) rfl
theorem q967 : (Jvm.Cond.constant "java/lang/Integer" (265 : Nat) (1431655765 : Int32)) ∈ lw_all := lw_g (lw_at lw_m4 187 rfl) rfl
theorem q968 : (Jvm.Cond.constant "java/lang/Integer" (266 : Nat) (858993459 : Int32)) ∈ lw_all := lw_g (lw_at lw_m4 188 rfl) rfl
theorem q969 : (Jvm.Cond.constant "java/lang/Integer" (267 : Nat) (252645135 : Int32)) ∈ lw_all := lw_g (lw_at lw_m4 189 rfl) rfl
/-! java/lang/RuntimeException -/
set_option maxRecDepth 100000
def RJ2 : String := "java/lang/RuntimeException"
abbrev cJ2_init : ByteArray := prog_35_method_5_code
def yJ2_init : MethodName := ⟨RJ2, "<init>", "(Ljava/lang/String;Ljava/lang/Throwable;ZZ)V"⟩
def dkwJ2_init_0 : List UInt8 := [42, 43, 44, 29, 21, 4, 183, 0, 16, 177]
abbrev dktJ2_init_0 : List UInt8 := dkwJ2_init_0 ++ []
theorem dksJ2_init_0 : cJ2_init.data.toList.drop 0 = dktJ2_init_0 := by decide +kernel
theorem dJ2_init_0 : decode cJ2_init 0 = .ok (.aload_n 0, 1) := dk_42 (dk_at dksJ2_init_0 0 rfl rfl)
theorem dJ2_init_1 : decode cJ2_init 1 = .ok (.aload_n 1, 1) := dk_43 (dk_at dksJ2_init_0 1 rfl rfl)
theorem dJ2_init_2 : decode cJ2_init 2 = .ok (.aload_n 2, 1) := dk_44 (dk_at dksJ2_init_0 2 rfl rfl)
theorem dJ2_init_3 : decode cJ2_init 3 = .ok (.iload_n 3, 1) := dk_29 (dk_at dksJ2_init_0 3 rfl rfl)
theorem dJ2_init_4 : decode cJ2_init 4 = .ok (.iload 4, 2) := dk_21 4 (dk_at dksJ2_init_0 4 rfl rfl)
theorem dJ2_init_6 : decode cJ2_init 6 = .ok (.invokespecial 16, 3) := dk_183 0 16 (dk_at dksJ2_init_0 6 rfl rfl)
theorem dJ2_init_9 : decode cJ2_init 9 = .ok (.return_, 1) := dk_177 (dk_at dksJ2_init_0 9 rfl rfl)
theorem q64 : (Jvm.Cond.initialized "java/lang/RuntimeException") ∈ lw_all := lw_g (lw_at lw_m1 4 rfl) rfl
theorem q108 : (Jvm.Cond.declares ({ cls := "java/lang/RuntimeException", name := "<init>", desc := "()V" } : Jvm.MethodName)) ∈ lw_tbl := lw_at lw_m1 48 rfl
theorem q109 : (Jvm.Cond.declares ({ cls := "java/lang/RuntimeException", name := "<init>", desc := "(Ljava/lang/String;)V" } : Jvm.MethodName)) ∈ lw_tbl := lw_at lw_m1 49 rfl
theorem q149 : (Jvm.Cond.instanceMethod ({ cls := "java/lang/RuntimeException", name := "<init>", desc := "(Ljava/lang/String;Ljava/lang/Throwable;ZZ)V" } : Jvm.MethodName)) ∈ lw_all := lw_g (lw_at lw_m1 89 rfl) rfl
theorem q150 : (Jvm.Cond.code ({ cls := "java/lang/RuntimeException", name := "<init>", desc := "(Ljava/lang/String;Ljava/lang/Throwable;ZZ)V" } : Jvm.MethodName) prog_35_method_5_code (5 : Nat) (Option.none : Option Jvm.ClassFile.FieldType)) ∈ lw_all := lw_g (lw_at lw_m1 90 rfl) rfl
theorem q151 : (Jvm.Cond.methodLink "java/lang/RuntimeException" (16 : Nat) ({ cls := "java/lang/Exception", name := "<init>", desc := "(Ljava/lang/String;Ljava/lang/Throwable;ZZ)V" } : Jvm.MethodName)) ∈ lw_all := lw_g (lw_at lw_m1 91 rfl) rfl
/-! java/lang/Exception -/
set_option maxRecDepth 100000
def RJ1 : String := "java/lang/Exception"
abbrev cJ1_init : ByteArray := prog_32_method_5_code
def yJ1_init : MethodName := ⟨RJ1, "<init>", "(Ljava/lang/String;Ljava/lang/Throwable;ZZ)V"⟩
def dkwJ1_init_0 : List UInt8 := [42, 43, 44, 29, 21, 4, 183, 0, 16, 177]
abbrev dktJ1_init_0 : List UInt8 := dkwJ1_init_0 ++ []
theorem dksJ1_init_0 : cJ1_init.data.toList.drop 0 = dktJ1_init_0 := by decide +kernel
theorem dJ1_init_0 : decode cJ1_init 0 = .ok (.aload_n 0, 1) := dk_42 (dk_at dksJ1_init_0 0 rfl rfl)
theorem dJ1_init_1 : decode cJ1_init 1 = .ok (.aload_n 1, 1) := dk_43 (dk_at dksJ1_init_0 1 rfl rfl)
theorem dJ1_init_2 : decode cJ1_init 2 = .ok (.aload_n 2, 1) := dk_44 (dk_at dksJ1_init_0 2 rfl rfl)
theorem dJ1_init_3 : decode cJ1_init 3 = .ok (.iload_n 3, 1) := dk_29 (dk_at dksJ1_init_0 3 rfl rfl)
theorem dJ1_init_4 : decode cJ1_init 4 = .ok (.iload 4, 2) := dk_21 4 (dk_at dksJ1_init_0 4 rfl rfl)
theorem dJ1_init_6 : decode cJ1_init 6 = .ok (.invokespecial 16, 3) := dk_183 0 16 (dk_at dksJ1_init_0 6 rfl rfl)
theorem dJ1_init_9 : decode cJ1_init 9 = .ok (.return_, 1) := dk_177 (dk_at dksJ1_init_0 9 rfl rfl)
theorem q63 : (Jvm.Cond.initialized "java/lang/Exception") ∈ lw_all := lw_g (lw_at lw_m1 3 rfl) rfl
theorem q110 : (Jvm.Cond.declares ({ cls := "java/lang/Exception", name := "<init>", desc := "()V" } : Jvm.MethodName)) ∈ lw_tbl := lw_at lw_m1 50 rfl
theorem q111 : (Jvm.Cond.declares ({ cls := "java/lang/Exception", name := "<init>", desc := "(Ljava/lang/String;)V" } : Jvm.MethodName)) ∈ lw_tbl := lw_at lw_m1 51 rfl
theorem q152 : (Jvm.Cond.instanceMethod ({ cls := "java/lang/Exception", name := "<init>", desc := "(Ljava/lang/String;Ljava/lang/Throwable;ZZ)V" } : Jvm.MethodName)) ∈ lw_all := lw_g (lw_at lw_m1 92 rfl) rfl
theorem q153 : (Jvm.Cond.code ({ cls := "java/lang/Exception", name := "<init>", desc := "(Ljava/lang/String;Ljava/lang/Throwable;ZZ)V" } : Jvm.MethodName) prog_32_method_5_code (5 : Nat) (Option.none : Option Jvm.ClassFile.FieldType)) ∈ lw_all := lw_g (lw_at lw_m1 93 rfl) rfl
theorem q154 : (Jvm.Cond.methodLink "java/lang/Exception" (16 : Nat) ({ cls := "java/lang/Throwable", name := "<init>", desc := "(Ljava/lang/String;Ljava/lang/Throwable;ZZ)V" } : Jvm.MethodName)) ∈ lw_all := lw_g (lw_at lw_m1 94 rfl) rfl
/-! java/lang/Throwable -/
set_option maxRecDepth 100000
def RJ0 : String := "java/lang/Throwable"
def TJ0 : u_T := fun k => match k with
  | 0 => ("java/lang/Throwable", "cause", "Ljava/lang/Throwable;", false)
  | 1 => ("java/lang/Throwable", "stackTrace", "[Ljava/lang/StackTraceElement;", false)
  | 2 => ("java/lang/Throwable", "suppressedExceptions", "Ljava/util/List;", false)
  | 3 => ("java/lang/Throwable", "detailMessage", "Ljava/lang/String;", false)
  | _ => ("java/lang/Throwable", "backtrace", "Ljava/lang/Object;", false)
def tyJ0 : Nat → FieldType := fun k => match k with
  | 0 => .object "java/lang/Throwable"
  | 1 => .array (.object "java/lang/StackTraceElement")
  | 2 => .object "java/util/List"
  | 3 => .object "java/lang/String"
  | _ => .object "java/lang/Object"
abbrev wsJ00 : List Cond := u_ws RJ0 TJ0 5
theorem nmJ0 : ∀ a, a < 5 → ∀ b, b < 5 → a ≠ b → (TJ0 a).2.1 ≠ (TJ0 b).2.1 := by decide +kernel
theorem tyJ0_ok : ∀ k, k < 5 → parseFieldDescriptor (TJ0 k).2.2.1 = some (tyJ0 k) := by decide +kernel
abbrev cJ0_init : ByteArray := prog_40_method_1_code
def yJ0_init : MethodName := ⟨RJ0, "<init>", "()V"⟩
def dkwJ0_init_1 : List UInt8 := [182, 0, 27, 87, 177]
abbrev dktJ0_init_1 : List UInt8 := dkwJ0_init_1 ++ []
def dkwJ0_init_0 : List UInt8 := [42, 183, 0, 1, 42, 42, 181, 0, 7, 42, 178, 0, 13, 181, 0, 17, 42, 178, 0, 20, 181, 0, 24, 42]
abbrev dktJ0_init_0 : List UInt8 := dkwJ0_init_0 ++ dktJ0_init_1
theorem dksJ0_init_0 : cJ0_init.data.toList.drop 0 = dktJ0_init_0 := by decide +kernel
theorem dksJ0_init_1 : cJ0_init.data.toList.drop 24 = dktJ0_init_1 := dk_seg dksJ0_init_0 24 rfl rfl
theorem dJ0_init_0 : decode cJ0_init 0 = .ok (.aload_n 0, 1) := dk_42 (dk_at dksJ0_init_0 0 rfl rfl)
theorem dJ0_init_1 : decode cJ0_init 1 = .ok (.invokespecial 1, 3) := dk_183 0 1 (dk_at dksJ0_init_0 1 rfl rfl)
theorem dJ0_init_4 : decode cJ0_init 4 = .ok (.aload_n 0, 1) := dk_42 (dk_at dksJ0_init_0 4 rfl rfl)
theorem dJ0_init_5 : decode cJ0_init 5 = .ok (.aload_n 0, 1) := dk_42 (dk_at dksJ0_init_0 5 rfl rfl)
theorem dJ0_init_6 : decode cJ0_init 6 = .ok (.putfield 7, 3) := dk_181 0 7 (dk_at dksJ0_init_0 6 rfl rfl)
theorem dJ0_init_9 : decode cJ0_init 9 = .ok (.aload_n 0, 1) := dk_42 (dk_at dksJ0_init_0 9 rfl rfl)
theorem dJ0_init_10 : decode cJ0_init 10 = .ok (.getstatic 13, 3) := dk_178 0 13 (dk_at dksJ0_init_0 10 rfl rfl)
theorem dJ0_init_13 : decode cJ0_init 13 = .ok (.putfield 17, 3) := dk_181 0 17 (dk_at dksJ0_init_0 13 rfl rfl)
theorem dJ0_init_16 : decode cJ0_init 16 = .ok (.aload_n 0, 1) := dk_42 (dk_at dksJ0_init_0 16 rfl rfl)
theorem dJ0_init_17 : decode cJ0_init 17 = .ok (.getstatic 20, 3) := dk_178 0 20 (dk_at dksJ0_init_0 17 rfl rfl)
theorem dJ0_init_20 : decode cJ0_init 20 = .ok (.putfield 24, 3) := dk_181 0 24 (dk_at dksJ0_init_0 20 rfl rfl)
theorem dJ0_init_23 : decode cJ0_init 23 = .ok (.aload_n 0, 1) := dk_42 (dk_at dksJ0_init_0 23 rfl rfl)
theorem dJ0_init_24 : decode cJ0_init 24 = .ok (.invokevirtual 27, 3) := dk_182 0 27 (dk_at dksJ0_init_1 0 rfl rfl)
theorem dJ0_init_27 : decode cJ0_init 27 = .ok (.pop, 1) := dk_87 (dk_at dksJ0_init_1 3 rfl rfl)
theorem dJ0_init_28 : decode cJ0_init 28 = .ok (.return_, 1) := dk_177 (dk_at dksJ0_init_1 4 rfl rfl)
abbrev cJ0_init_2 : ByteArray := prog_40_method_5_code
def yJ0_init_2 : MethodName := ⟨RJ0, "<init>", "(Ljava/lang/String;Ljava/lang/Throwable;ZZ)V"⟩
def dkwJ0_init_2_2 : List UInt8 := [44, 181, 0, 7, 29, 154, 0, 8, 42, 1, 181, 0, 24, 177]
abbrev dktJ0_init_2_2 : List UInt8 := dkwJ0_init_2_2 ++ []
def dkwJ0_init_2_1 : List UInt8 := [21, 4, 153, 0, 11, 42, 182, 0, 27, 87, 167, 0, 8, 42, 1, 181, 0, 17, 42, 43, 181, 0, 31, 42]
abbrev dktJ0_init_2_1 : List UInt8 := dkwJ0_init_2_1 ++ dktJ0_init_2_2
def dkwJ0_init_2_0 : List UInt8 := [42, 183, 0, 1, 42, 42, 181, 0, 7, 42, 178, 0, 13, 181, 0, 17, 42, 178, 0, 20, 181, 0, 24]
abbrev dktJ0_init_2_0 : List UInt8 := dkwJ0_init_2_0 ++ dktJ0_init_2_1
theorem dksJ0_init_2_0 : cJ0_init_2.data.toList.drop 0 = dktJ0_init_2_0 := by decide +kernel
theorem dksJ0_init_2_1 : cJ0_init_2.data.toList.drop 23 = dktJ0_init_2_1 := dk_seg dksJ0_init_2_0 23 rfl rfl
theorem dksJ0_init_2_2 : cJ0_init_2.data.toList.drop 47 = dktJ0_init_2_2 := dk_seg dksJ0_init_2_1 24 rfl rfl
theorem dJ0_init_2_0 : decode cJ0_init_2 0 = .ok (.aload_n 0, 1) := dk_42 (dk_at dksJ0_init_2_0 0 rfl rfl)
theorem dJ0_init_2_1 : decode cJ0_init_2 1 = .ok (.invokespecial 1, 3) := dk_183 0 1 (dk_at dksJ0_init_2_0 1 rfl rfl)
theorem dJ0_init_2_4 : decode cJ0_init_2 4 = .ok (.aload_n 0, 1) := dk_42 (dk_at dksJ0_init_2_0 4 rfl rfl)
theorem dJ0_init_2_5 : decode cJ0_init_2 5 = .ok (.aload_n 0, 1) := dk_42 (dk_at dksJ0_init_2_0 5 rfl rfl)
theorem dJ0_init_2_6 : decode cJ0_init_2 6 = .ok (.putfield 7, 3) := dk_181 0 7 (dk_at dksJ0_init_2_0 6 rfl rfl)
theorem dJ0_init_2_9 : decode cJ0_init_2 9 = .ok (.aload_n 0, 1) := dk_42 (dk_at dksJ0_init_2_0 9 rfl rfl)
theorem dJ0_init_2_10 : decode cJ0_init_2 10 = .ok (.getstatic 13, 3) := dk_178 0 13 (dk_at dksJ0_init_2_0 10 rfl rfl)
theorem dJ0_init_2_13 : decode cJ0_init_2 13 = .ok (.putfield 17, 3) := dk_181 0 17 (dk_at dksJ0_init_2_0 13 rfl rfl)
theorem dJ0_init_2_16 : decode cJ0_init_2 16 = .ok (.aload_n 0, 1) := dk_42 (dk_at dksJ0_init_2_0 16 rfl rfl)
theorem dJ0_init_2_17 : decode cJ0_init_2 17 = .ok (.getstatic 20, 3) := dk_178 0 20 (dk_at dksJ0_init_2_0 17 rfl rfl)
theorem dJ0_init_2_20 : decode cJ0_init_2 20 = .ok (.putfield 24, 3) := dk_181 0 24 (dk_at dksJ0_init_2_0 20 rfl rfl)
theorem dJ0_init_2_23 : decode cJ0_init_2 23 = .ok (.iload 4, 2) := dk_21 4 (dk_at dksJ0_init_2_1 0 rfl rfl)
theorem dJ0_init_2_25 : decode cJ0_init_2 25 = .ok (.ifCond .eq 11, 3) := dk_153 0 11 (dk_at dksJ0_init_2_1 2 rfl rfl)
theorem dJ0_init_2_28 : decode cJ0_init_2 28 = .ok (.aload_n 0, 1) := dk_42 (dk_at dksJ0_init_2_1 5 rfl rfl)
theorem dJ0_init_2_29 : decode cJ0_init_2 29 = .ok (.invokevirtual 27, 3) := dk_182 0 27 (dk_at dksJ0_init_2_1 6 rfl rfl)
theorem dJ0_init_2_32 : decode cJ0_init_2 32 = .ok (.pop, 1) := dk_87 (dk_at dksJ0_init_2_1 9 rfl rfl)
theorem dJ0_init_2_33 : decode cJ0_init_2 33 = .ok (.goto 8, 3) := dk_167 0 8 (dk_at dksJ0_init_2_1 10 rfl rfl)
theorem dJ0_init_2_36 : decode cJ0_init_2 36 = .ok (.aload_n 0, 1) := dk_42 (dk_at dksJ0_init_2_1 13 rfl rfl)
theorem dJ0_init_2_37 : decode cJ0_init_2 37 = .ok (.aconst_null, 1) := dk_1 (dk_at dksJ0_init_2_1 14 rfl rfl)
theorem dJ0_init_2_38 : decode cJ0_init_2 38 = .ok (.putfield 17, 3) := dk_181 0 17 (dk_at dksJ0_init_2_1 15 rfl rfl)
theorem dJ0_init_2_41 : decode cJ0_init_2 41 = .ok (.aload_n 0, 1) := dk_42 (dk_at dksJ0_init_2_1 18 rfl rfl)
theorem dJ0_init_2_42 : decode cJ0_init_2 42 = .ok (.aload_n 1, 1) := dk_43 (dk_at dksJ0_init_2_1 19 rfl rfl)
theorem dJ0_init_2_43 : decode cJ0_init_2 43 = .ok (.putfield 31, 3) := dk_181 0 31 (dk_at dksJ0_init_2_1 20 rfl rfl)
theorem dJ0_init_2_46 : decode cJ0_init_2 46 = .ok (.aload_n 0, 1) := dk_42 (dk_at dksJ0_init_2_1 23 rfl rfl)
theorem dJ0_init_2_47 : decode cJ0_init_2 47 = .ok (.aload_n 2, 1) := dk_44 (dk_at dksJ0_init_2_2 0 rfl rfl)
theorem dJ0_init_2_48 : decode cJ0_init_2 48 = .ok (.putfield 7, 3) := dk_181 0 7 (dk_at dksJ0_init_2_2 1 rfl rfl)
theorem dJ0_init_2_51 : decode cJ0_init_2 51 = .ok (.iload_n 3, 1) := dk_29 (dk_at dksJ0_init_2_2 4 rfl rfl)
theorem dJ0_init_2_52 : decode cJ0_init_2 52 = .ok (.ifCond .ne 8, 3) := dk_154 0 8 (dk_at dksJ0_init_2_2 5 rfl rfl)
theorem dJ0_init_2_55 : decode cJ0_init_2 55 = .ok (.aload_n 0, 1) := dk_42 (dk_at dksJ0_init_2_2 8 rfl rfl)
theorem dJ0_init_2_56 : decode cJ0_init_2 56 = .ok (.aconst_null, 1) := dk_1 (dk_at dksJ0_init_2_2 9 rfl rfl)
theorem dJ0_init_2_57 : decode cJ0_init_2 57 = .ok (.putfield 24, 3) := dk_181 0 24 (dk_at dksJ0_init_2_2 10 rfl rfl)
theorem dJ0_init_2_60 : decode cJ0_init_2 60 = .ok (.return_, 1) := dk_177 (dk_at dksJ0_init_2_2 13 rfl rfl)
theorem q62 : (Jvm.Cond.initialized "java/lang/Throwable") ∈ lw_all := lw_g (lw_at lw_m1 2 rfl) rfl
theorem q112 : (Jvm.Cond.declares ({ cls := "java/lang/Throwable", name := "<init>", desc := "()V" } : Jvm.MethodName)) ∈ lw_tbl := lw_at lw_m1 52 rfl
theorem q113 : (Jvm.Cond.declares ({ cls := "java/lang/Throwable", name := "<init>", desc := "(Ljava/lang/String;)V" } : Jvm.MethodName)) ∈ lw_tbl := lw_at lw_m1 53 rfl
theorem q117 : (Jvm.Cond.lays "java/lang/Throwable" "java/lang/Throwable" "cause" "Ljava/lang/Throwable;") ∈ lw_all := lw_g (lw_at lw_m1 57 rfl) rfl
theorem q119 : (Jvm.Cond.lays "java/lang/Throwable" "java/lang/Throwable" "stackTrace" "[Ljava/lang/StackTraceElement;") ∈ lw_all := lw_g (lw_at lw_m1 59 rfl) rfl
theorem q121 : (Jvm.Cond.lays "java/lang/Throwable" "java/lang/Throwable" "suppressedExceptions" "Ljava/util/List;") ∈ lw_all := lw_g (lw_at lw_m1 61 rfl) rfl
theorem q123 : (Jvm.Cond.lays "java/lang/Throwable" "java/lang/Throwable" "detailMessage" "Ljava/lang/String;") ∈ lw_all := lw_g (lw_at lw_m1 63 rfl) rfl
theorem q125 : (Jvm.Cond.lays "java/lang/Throwable" "java/lang/Throwable" "backtrace" "Ljava/lang/Object;") ∈ lw_all := lw_g (lw_at lw_m1 65 rfl) rfl
theorem q126 : (Jvm.Cond.fieldLink "java/lang/Throwable" (198 : Nat) "java/lang/Throwable" "backtrace" "Ljava/lang/Object;") ∈ lw_all := lw_g (lw_at lw_m1 66 rfl) rfl
theorem q127 : (Jvm.Cond.superclass "java/lang/Throwable" "java/lang/Object") ∈ lw_all := lw_g (lw_at lw_m1 67 rfl) rfl
theorem q128 : (Jvm.Cond.instanceMethod ({ cls := "java/lang/Throwable", name := "<init>", desc := "()V" } : Jvm.MethodName)) ∈ lw_all := lw_g (lw_at lw_m1 68 rfl) rfl
theorem q129 : (Jvm.Cond.code ({ cls := "java/lang/Throwable", name := "<init>", desc := "()V" } : Jvm.MethodName) prog_40_method_1_code (1 : Nat) (Option.none : Option Jvm.ClassFile.FieldType)) ∈ lw_all := lw_g (lw_at lw_m1 69 rfl) rfl
theorem q130 : (Jvm.Cond.methodLink "java/lang/Throwable" (1 : Nat) ({ cls := "java/lang/Object", name := "<init>", desc := "()V" } : Jvm.MethodName)) ∈ lw_all := lw_g (lw_at lw_m1 70 rfl) rfl
theorem q131 : (Jvm.Cond.fieldLink "java/lang/Throwable" (13 : Nat) "java/lang/Throwable" "UNASSIGNED_STACK" "[Ljava/lang/StackTraceElement;") ∈ lw_all := lw_g (lw_at lw_m1 71 rfl) rfl
theorem q132 : (Jvm.Cond.laysStatic "java/lang/Throwable" "UNASSIGNED_STACK" "[Ljava/lang/StackTraceElement;") ∈ lw_tbl := lw_at lw_m1 72 rfl
theorem q133 : (Jvm.Cond.fieldLink "java/lang/Throwable" (20 : Nat) "java/lang/Throwable" "SUPPRESSED_SENTINEL" "Ljava/util/List;") ∈ lw_all := lw_g (lw_at lw_m1 73 rfl) rfl
theorem q134 : (Jvm.Cond.laysStatic "java/lang/Throwable" "SUPPRESSED_SENTINEL" "Ljava/util/List;") ∈ lw_tbl := lw_at lw_m1 74 rfl
theorem q135 : (Jvm.Cond.methodLink "java/lang/Throwable" (27 : Nat) ({ cls := "java/lang/Throwable", name := "fillInStackTrace", desc := "()Ljava/lang/Throwable;" } : Jvm.MethodName)) ∈ lw_all := lw_g (lw_at lw_m1 75 rfl) rfl
theorem q136 : (Jvm.Cond.instanceMethod ({ cls := "java/lang/Throwable", name := "fillInStackTrace", desc := "()Ljava/lang/Throwable;" } : Jvm.MethodName)) ∈ lw_all := lw_g (lw_at lw_m1 76 rfl) rfl
theorem q137 : (Jvm.Cond.sameMethod "java/lang/Throwable" "java/lang/Throwable" "fillInStackTrace" "()Ljava/lang/Throwable;") ∈ lw_all := lw_g (lw_at lw_m1 77 rfl) rfl
theorem q139 : (Jvm.Cond.codeSync ({ cls := "java/lang/Throwable", name := "fillInStackTrace", desc := "()Ljava/lang/Throwable;" } : Jvm.MethodName) prog_40_method_18_code (1 : Nat) (Option.some (Jvm.ClassFile.FieldType.object "java/lang/Throwable"))) ∈ lw_all := lw_g (lw_at lw_m1 79 rfl) rfl
theorem q140 : (Jvm.Cond.methodLink "java/lang/Throwable" (202 : Nat) ({ cls := "java/lang/Throwable", name := "fillInStackTrace", desc := "(I)Ljava/lang/Throwable;" } : Jvm.MethodName)) ∈ lw_all := lw_g (lw_at lw_m1 80 rfl) rfl
theorem q141 : (Jvm.Cond.privateMethod ({ cls := "java/lang/Throwable", name := "fillInStackTrace", desc := "(I)Ljava/lang/Throwable;" } : Jvm.MethodName)) ∈ lw_tbl := lw_at lw_m1 81 rfl
theorem q142 : (Jvm.Cond.instanceMethod ({ cls := "java/lang/Throwable", name := "fillInStackTrace", desc := "(I)Ljava/lang/Throwable;" } : Jvm.MethodName)) ∈ lw_all := lw_g (lw_at lw_m1 82 rfl) rfl
theorem q143 : (Jvm.Cond.instantiable "java/lang/Throwable" (6 : Nat)) ∈ lw_all := lw_g (lw_at lw_m1 83 rfl) rfl
theorem q144 : (Jvm.Cond.native ({ cls := "java/lang/Throwable", name := "fillInStackTrace", desc := "(I)Ljava/lang/Throwable;" } : Jvm.MethodName)) ∈ lw_all := lw_g (lw_at lw_m1 84 rfl) rfl
theorem q155 : (Jvm.Cond.instanceMethod ({ cls := "java/lang/Throwable", name := "<init>", desc := "(Ljava/lang/String;Ljava/lang/Throwable;ZZ)V" } : Jvm.MethodName)) ∈ lw_all := lw_g (lw_at lw_m1 95 rfl) rfl
theorem q156 : (Jvm.Cond.code ({ cls := "java/lang/Throwable", name := "<init>", desc := "(Ljava/lang/String;Ljava/lang/Throwable;ZZ)V" } : Jvm.MethodName) prog_40_method_5_code (5 : Nat) (Option.none : Option Jvm.ClassFile.FieldType)) ∈ lw_all := lw_g (lw_at lw_m1 96 rfl) rfl
theorem q159 : (Jvm.Cond.fieldLink "java/lang/Throwable" (198 : Nat) "java/lang/Throwable" "backtrace" "Ljava/lang/Object;") ∈ lw_all := lw_g (lw_at lw_m1 99 rfl) rfl
theorem q160 : (Jvm.Cond.fieldLink "java/lang/Throwable" (31 : Nat) "java/lang/Throwable" "detailMessage" "Ljava/lang/String;") ∈ lw_all := lw_g (lw_at lw_m1 100 rfl) rfl
theorem q161 : (Jvm.Cond.fieldLink "java/lang/Throwable" (7 : Nat) "java/lang/Throwable" "cause" "Ljava/lang/Throwable;") ∈ lw_all := lw_g (lw_at lw_m1 101 rfl) rfl
theorem q162 : (Jvm.Cond.fieldLink "java/lang/Throwable" (17 : Nat) "java/lang/Throwable" "stackTrace" "[Ljava/lang/StackTraceElement;") ∈ lw_all := lw_g (lw_at lw_m1 102 rfl) rfl
theorem q163 : (Jvm.Cond.fieldLink "java/lang/Throwable" (24 : Nat) "java/lang/Throwable" "suppressedExceptions" "Ljava/util/List;") ∈ lw_all := lw_g (lw_at lw_m1 103 rfl) rfl
theorem q166 : (Jvm.Cond.soleField "java/lang/Throwable" "backtrace") ∈ lw_all := lw_g (lw_at lw_m1 106 rfl) rfl
theorem q167 : (Jvm.Cond.soleField "java/lang/Throwable" "detailMessage") ∈ lw_all := lw_g (lw_at lw_m1 107 rfl) rfl
theorem q168 : (Jvm.Cond.soleField "java/lang/Throwable" "cause") ∈ lw_all := lw_g (lw_at lw_m1 108 rfl) rfl
theorem q169 : (Jvm.Cond.soleField "java/lang/Throwable" "stackTrace") ∈ lw_all := lw_g (lw_at lw_m1 109 rfl) rfl
theorem q171 : (Jvm.Cond.soleField "java/lang/Throwable" "depth") ∈ lw_all := lw_g (lw_at lw_m1 111 rfl) rfl
theorem q172 : (Jvm.Cond.soleField "java/lang/Throwable" "suppressedExceptions") ∈ lw_all := lw_g (lw_at lw_m1 112 rfl) rfl
theorem q1829 : (Jvm.Cond.sameMethod "java/lang/Throwable" "java/lang/Throwable" "fillInStackTrace" "(I)Ljava/lang/Throwable;") ∈ lw_all := lw_g (lw_at lw_m8 89 rfl) rfl
theorem in_J0 : ∀ w ∈ wsJ00, w ∈ lw_all := lw_in wsJ00 [117, 119, 121, 123, 125] (by decide +kernel) (by decide +kernel)
/-! java/lang/String -/
set_option maxRecDepth 100000
def RJ4 : String := "java/lang/String"
abbrev cJ4_indexOf : ByteArray := prog_36_method_79_code
def yJ4_indexOf : MethodName := ⟨RJ4, "indexOf", "(I)I"⟩
def dkwJ4_indexOf_0 : List UInt8 := [42, 27, 3, 182, 2, 121, 172]
abbrev dktJ4_indexOf_0 : List UInt8 := dkwJ4_indexOf_0 ++ []
theorem dksJ4_indexOf_0 : cJ4_indexOf.data.toList.drop 0 = dktJ4_indexOf_0 := by decide +kernel
theorem dJ4_indexOf_0 : decode cJ4_indexOf 0 = .ok (.aload_n 0, 1) := dk_42 (dk_at dksJ4_indexOf_0 0 rfl rfl)
theorem dJ4_indexOf_1 : decode cJ4_indexOf 1 = .ok (.iload_n 1, 1) := dk_27 (dk_at dksJ4_indexOf_0 1 rfl rfl)
theorem dJ4_indexOf_2 : decode cJ4_indexOf 2 = .ok (.iconst 0, 1) := dk_3 (dk_at dksJ4_indexOf_0 2 rfl rfl)
theorem dJ4_indexOf_3 : decode cJ4_indexOf 3 = .ok (.invokevirtual 633, 3) := dk_182 2 121 (dk_at dksJ4_indexOf_0 3 rfl rfl)
theorem dJ4_indexOf_6 : decode cJ4_indexOf 6 = .ok (.ireturn, 1) := dk_172 (dk_at dksJ4_indexOf_0 6 rfl rfl)
abbrev cJ4_indexOf_2 : ByteArray := prog_36_method_80_code
def yJ4_indexOf_2 : MethodName := ⟨RJ4, "indexOf", "(II)I"⟩
def dkwJ4_indexOf_2_1 : List UInt8 := [180, 0, 9, 27, 28, 42, 182, 1, 249, 184, 2, 128, 172]
abbrev dktJ4_indexOf_2_1 : List UInt8 := dkwJ4_indexOf_2_1 ++ []
def dkwJ4_indexOf_2_0 : List UInt8 := [42, 182, 1, 236, 153, 0, 19, 42, 180, 0, 9, 27, 28, 42, 182, 1, 249, 184, 2, 125, 167, 0, 16, 42]
abbrev dktJ4_indexOf_2_0 : List UInt8 := dkwJ4_indexOf_2_0 ++ dktJ4_indexOf_2_1
theorem dksJ4_indexOf_2_0 : cJ4_indexOf_2.data.toList.drop 0 = dktJ4_indexOf_2_0 := by decide +kernel
theorem dksJ4_indexOf_2_1 : cJ4_indexOf_2.data.toList.drop 24 = dktJ4_indexOf_2_1 := dk_seg dksJ4_indexOf_2_0 24 rfl rfl
theorem dJ4_indexOf_2_0 : decode cJ4_indexOf_2 0 = .ok (.aload_n 0, 1) := dk_42 (dk_at dksJ4_indexOf_2_0 0 rfl rfl)
theorem dJ4_indexOf_2_1 : decode cJ4_indexOf_2 1 = .ok (.invokevirtual 492, 3) := dk_182 1 236 (dk_at dksJ4_indexOf_2_0 1 rfl rfl)
theorem dJ4_indexOf_2_4 : decode cJ4_indexOf_2 4 = .ok (.ifCond .eq 19, 3) := dk_153 0 19 (dk_at dksJ4_indexOf_2_0 4 rfl rfl)
theorem dJ4_indexOf_2_7 : decode cJ4_indexOf_2 7 = .ok (.aload_n 0, 1) := dk_42 (dk_at dksJ4_indexOf_2_0 7 rfl rfl)
theorem dJ4_indexOf_2_8 : decode cJ4_indexOf_2 8 = .ok (.getfield 9, 3) := dk_180 0 9 (dk_at dksJ4_indexOf_2_0 8 rfl rfl)
theorem dJ4_indexOf_2_11 : decode cJ4_indexOf_2 11 = .ok (.iload_n 1, 1) := dk_27 (dk_at dksJ4_indexOf_2_0 11 rfl rfl)
theorem dJ4_indexOf_2_12 : decode cJ4_indexOf_2 12 = .ok (.iload_n 2, 1) := dk_28 (dk_at dksJ4_indexOf_2_0 12 rfl rfl)
theorem dJ4_indexOf_2_13 : decode cJ4_indexOf_2 13 = .ok (.aload_n 0, 1) := dk_42 (dk_at dksJ4_indexOf_2_0 13 rfl rfl)
theorem dJ4_indexOf_2_14 : decode cJ4_indexOf_2 14 = .ok (.invokevirtual 505, 3) := dk_182 1 249 (dk_at dksJ4_indexOf_2_0 14 rfl rfl)
theorem dJ4_indexOf_2_17 : decode cJ4_indexOf_2 17 = .ok (.invokestatic 637, 3) := dk_184 2 125 (dk_at dksJ4_indexOf_2_0 17 rfl rfl)
theorem dJ4_indexOf_2_20 : decode cJ4_indexOf_2 20 = .ok (.goto 16, 3) := dk_167 0 16 (dk_at dksJ4_indexOf_2_0 20 rfl rfl)
theorem dJ4_indexOf_2_23 : decode cJ4_indexOf_2 23 = .ok (.aload_n 0, 1) := dk_42 (dk_at dksJ4_indexOf_2_0 23 rfl rfl)
theorem dJ4_indexOf_2_24 : decode cJ4_indexOf_2 24 = .ok (.getfield 9, 3) := dk_180 0 9 (dk_at dksJ4_indexOf_2_1 0 rfl rfl)
theorem dJ4_indexOf_2_27 : decode cJ4_indexOf_2 27 = .ok (.iload_n 1, 1) := dk_27 (dk_at dksJ4_indexOf_2_1 3 rfl rfl)
theorem dJ4_indexOf_2_28 : decode cJ4_indexOf_2 28 = .ok (.iload_n 2, 1) := dk_28 (dk_at dksJ4_indexOf_2_1 4 rfl rfl)
theorem dJ4_indexOf_2_29 : decode cJ4_indexOf_2 29 = .ok (.aload_n 0, 1) := dk_42 (dk_at dksJ4_indexOf_2_1 5 rfl rfl)
theorem dJ4_indexOf_2_30 : decode cJ4_indexOf_2 30 = .ok (.invokevirtual 505, 3) := dk_182 1 249 (dk_at dksJ4_indexOf_2_1 6 rfl rfl)
theorem dJ4_indexOf_2_33 : decode cJ4_indexOf_2 33 = .ok (.invokestatic 640, 3) := dk_184 2 128 (dk_at dksJ4_indexOf_2_1 9 rfl rfl)
theorem dJ4_indexOf_2_36 : decode cJ4_indexOf_2 36 = .ok (.ireturn, 1) := dk_172 (dk_at dksJ4_indexOf_2_1 12 rfl rfl)
abbrev cJ4_isLatin1 : ByteArray := prog_36_method_154_code
def yJ4_isLatin1 : MethodName := ⟨RJ4, "isLatin1", "()Z"⟩
def dkwJ4_isLatin1_0 : List UInt8 := [178, 0, 38, 153, 0, 14, 42, 180, 0, 15, 154, 0, 7, 4, 167, 0, 4, 3, 172]
abbrev dktJ4_isLatin1_0 : List UInt8 := dkwJ4_isLatin1_0 ++ []
theorem dksJ4_isLatin1_0 : cJ4_isLatin1.data.toList.drop 0 = dktJ4_isLatin1_0 := by decide +kernel
theorem dJ4_isLatin1_0 : decode cJ4_isLatin1 0 = .ok (.getstatic 38, 3) := dk_178 0 38 (dk_at dksJ4_isLatin1_0 0 rfl rfl)
theorem dJ4_isLatin1_3 : decode cJ4_isLatin1 3 = .ok (.ifCond .eq 14, 3) := dk_153 0 14 (dk_at dksJ4_isLatin1_0 3 rfl rfl)
theorem dJ4_isLatin1_6 : decode cJ4_isLatin1 6 = .ok (.aload_n 0, 1) := dk_42 (dk_at dksJ4_isLatin1_0 6 rfl rfl)
theorem dJ4_isLatin1_7 : decode cJ4_isLatin1 7 = .ok (.getfield 15, 3) := dk_180 0 15 (dk_at dksJ4_isLatin1_0 7 rfl rfl)
theorem dJ4_isLatin1_10 : decode cJ4_isLatin1 10 = .ok (.ifCond .ne 7, 3) := dk_154 0 7 (dk_at dksJ4_isLatin1_0 10 rfl rfl)
theorem dJ4_isLatin1_13 : decode cJ4_isLatin1 13 = .ok (.iconst 1, 1) := dk_4 (dk_at dksJ4_isLatin1_0 13 rfl rfl)
theorem dJ4_isLatin1_14 : decode cJ4_isLatin1 14 = .ok (.goto 4, 3) := dk_167 0 4 (dk_at dksJ4_isLatin1_0 14 rfl rfl)
theorem dJ4_isLatin1_17 : decode cJ4_isLatin1 17 = .ok (.iconst 0, 1) := dk_3 (dk_at dksJ4_isLatin1_0 17 rfl rfl)
theorem dJ4_isLatin1_18 : decode cJ4_isLatin1 18 = .ok (.ireturn, 1) := dk_172 (dk_at dksJ4_isLatin1_0 18 rfl rfl)
abbrev cJ4_length : ByteArray := prog_36_method_54_code
def yJ4_length : MethodName := ⟨RJ4, "length", "()I"⟩
def dkwJ4_length_0 : List UInt8 := [42, 180, 0, 9, 190, 42, 182, 1, 79, 122, 172]
abbrev dktJ4_length_0 : List UInt8 := dkwJ4_length_0 ++ []
theorem dksJ4_length_0 : cJ4_length.data.toList.drop 0 = dktJ4_length_0 := by decide +kernel
theorem dJ4_length_0 : decode cJ4_length 0 = .ok (.aload_n 0, 1) := dk_42 (dk_at dksJ4_length_0 0 rfl rfl)
theorem dJ4_length_1 : decode cJ4_length 1 = .ok (.getfield 9, 3) := dk_180 0 9 (dk_at dksJ4_length_0 1 rfl rfl)
theorem dJ4_length_4 : decode cJ4_length 4 = .ok (.arraylength, 1) := dk_190 (dk_at dksJ4_length_0 4 rfl rfl)
theorem dJ4_length_5 : decode cJ4_length 5 = .ok (.aload_n 0, 1) := dk_42 (dk_at dksJ4_length_0 5 rfl rfl)
theorem dJ4_length_6 : decode cJ4_length 6 = .ok (.invokevirtual 335, 3) := dk_182 1 79 (dk_at dksJ4_length_0 6 rfl rfl)
theorem dJ4_length_9 : decode cJ4_length 9 = .ok (.ishr, 1) := dk_122 (dk_at dksJ4_length_0 9 rfl rfl)
theorem dJ4_length_10 : decode cJ4_length 10 = .ok (.ireturn, 1) := dk_172 (dk_at dksJ4_length_0 10 rfl rfl)
abbrev cJ4_coder : ByteArray := prog_36_method_152_code
def yJ4_coder : MethodName := ⟨RJ4, "coder", "()B"⟩
def dkwJ4_coder_0 : List UInt8 := [178, 0, 38, 153, 0, 10, 42, 180, 0, 15, 167, 0, 4, 4, 172]
abbrev dktJ4_coder_0 : List UInt8 := dkwJ4_coder_0 ++ []
theorem dksJ4_coder_0 : cJ4_coder.data.toList.drop 0 = dktJ4_coder_0 := by decide +kernel
theorem dJ4_coder_0 : decode cJ4_coder 0 = .ok (.getstatic 38, 3) := dk_178 0 38 (dk_at dksJ4_coder_0 0 rfl rfl)
theorem dJ4_coder_3 : decode cJ4_coder 3 = .ok (.ifCond .eq 10, 3) := dk_153 0 10 (dk_at dksJ4_coder_0 3 rfl rfl)
theorem dJ4_coder_6 : decode cJ4_coder 6 = .ok (.aload_n 0, 1) := dk_42 (dk_at dksJ4_coder_0 6 rfl rfl)
theorem dJ4_coder_7 : decode cJ4_coder 7 = .ok (.getfield 15, 3) := dk_180 0 15 (dk_at dksJ4_coder_0 7 rfl rfl)
theorem dJ4_coder_10 : decode cJ4_coder 10 = .ok (.goto 4, 3) := dk_167 0 4 (dk_at dksJ4_coder_0 10 rfl rfl)
theorem dJ4_coder_13 : decode cJ4_coder 13 = .ok (.iconst 1, 1) := dk_4 (dk_at dksJ4_coder_0 13 rfl rfl)
theorem dJ4_coder_14 : decode cJ4_coder 14 = .ok (.ireturn, 1) := dk_172 (dk_at dksJ4_coder_0 14 rfl rfl)
abbrev cJ4_checkBoundsBeginEnd : ByteArray := prog_36_method_158_code
def yJ4_checkBoundsBeginEnd : MethodName := ⟨RJ4, "checkBoundsBeginEnd", "(III)V"⟩
def dkwJ4_checkBoundsBeginEnd_0 : List UInt8 := [26, 27, 28, 178, 4, 29, 184, 4, 38, 87, 177]
abbrev dktJ4_checkBoundsBeginEnd_0 : List UInt8 := dkwJ4_checkBoundsBeginEnd_0 ++ []
theorem dksJ4_checkBoundsBeginEnd_0 : cJ4_checkBoundsBeginEnd.data.toList.drop 0 = dktJ4_checkBoundsBeginEnd_0 := by decide +kernel
theorem dJ4_checkBoundsBeginEnd_0 : decode cJ4_checkBoundsBeginEnd 0 = .ok (.iload_n 0, 1) := dk_26 (dk_at dksJ4_checkBoundsBeginEnd_0 0 rfl rfl)
theorem dJ4_checkBoundsBeginEnd_1 : decode cJ4_checkBoundsBeginEnd 1 = .ok (.iload_n 1, 1) := dk_27 (dk_at dksJ4_checkBoundsBeginEnd_0 1 rfl rfl)
theorem dJ4_checkBoundsBeginEnd_2 : decode cJ4_checkBoundsBeginEnd 2 = .ok (.iload_n 2, 1) := dk_28 (dk_at dksJ4_checkBoundsBeginEnd_0 2 rfl rfl)
theorem dJ4_checkBoundsBeginEnd_3 : decode cJ4_checkBoundsBeginEnd 3 = .ok (.getstatic 1053, 3) := dk_178 4 29 (dk_at dksJ4_checkBoundsBeginEnd_0 3 rfl rfl)
theorem dJ4_checkBoundsBeginEnd_6 : decode cJ4_checkBoundsBeginEnd 6 = .ok (.invokestatic 1062, 3) := dk_184 4 38 (dk_at dksJ4_checkBoundsBeginEnd_0 6 rfl rfl)
theorem dJ4_checkBoundsBeginEnd_9 : decode cJ4_checkBoundsBeginEnd 9 = .ok (.pop, 1) := dk_87 (dk_at dksJ4_checkBoundsBeginEnd_0 9 rfl rfl)
theorem dJ4_checkBoundsBeginEnd_10 : decode cJ4_checkBoundsBeginEnd 10 = .ok (.return_, 1) := dk_177 (dk_at dksJ4_checkBoundsBeginEnd_0 10 rfl rfl)
theorem q82 : (Jvm.Cond.initialized "java/lang/String") ∈ lw_all := lw_g (lw_at lw_m1 22 rfl) rfl
theorem q742 : (Jvm.Cond.instanceMethod ({ cls := "java/lang/String", name := "indexOf", desc := "(I)I" } : Jvm.MethodName)) ∈ lw_all := lw_g (lw_at lw_m3 202 rfl) rfl
theorem q743 : (Jvm.Cond.selects "java/lang/String" ({ cls := "java/lang/String", name := "indexOf", desc := "(I)I" } : Jvm.MethodName) ({ cls := "java/lang/String", name := "indexOf", desc := "(I)I" } : Jvm.MethodName)) ∈ lw_all := lw_g (lw_at lw_m3 203 rfl) rfl
theorem q744 : (Jvm.Cond.code ({ cls := "java/lang/String", name := "indexOf", desc := "(I)I" } : Jvm.MethodName) prog_36_method_79_code (2 : Nat) (Option.some Jvm.ClassFile.FieldType.int)) ∈ lw_all := lw_g (lw_at lw_m3 204 rfl) rfl
theorem q745 : (Jvm.Cond.methodLink "java/lang/String" (633 : Nat) ({ cls := "java/lang/String", name := "indexOf", desc := "(II)I" } : Jvm.MethodName)) ∈ lw_all := lw_g (lw_at lw_m3 205 rfl) rfl
theorem q746 : (Jvm.Cond.instanceMethod ({ cls := "java/lang/String", name := "indexOf", desc := "(II)I" } : Jvm.MethodName)) ∈ lw_all := lw_g (lw_at lw_m3 206 rfl) rfl
theorem q747 : (Jvm.Cond.selects "java/lang/String" ({ cls := "java/lang/String", name := "indexOf", desc := "(II)I" } : Jvm.MethodName) ({ cls := "java/lang/String", name := "indexOf", desc := "(II)I" } : Jvm.MethodName)) ∈ lw_all := lw_g (lw_at lw_m3 207 rfl) rfl
theorem q748 : (Jvm.Cond.code ({ cls := "java/lang/String", name := "indexOf", desc := "(II)I" } : Jvm.MethodName) prog_36_method_80_code (3 : Nat) (Option.some Jvm.ClassFile.FieldType.int)) ∈ lw_all := lw_g (lw_at lw_m3 208 rfl) rfl
theorem q749 : (Jvm.Cond.methodLink "java/lang/String" (492 : Nat) ({ cls := "java/lang/String", name := "isLatin1", desc := "()Z" } : Jvm.MethodName)) ∈ lw_all := lw_g (lw_at lw_m3 209 rfl) rfl
theorem q750 : (Jvm.Cond.instanceMethod ({ cls := "java/lang/String", name := "isLatin1", desc := "()Z" } : Jvm.MethodName)) ∈ lw_all := lw_g (lw_at lw_m3 210 rfl) rfl
theorem q751 : (Jvm.Cond.selects "java/lang/String" ({ cls := "java/lang/String", name := "isLatin1", desc := "()Z" } : Jvm.MethodName) ({ cls := "java/lang/String", name := "isLatin1", desc := "()Z" } : Jvm.MethodName)) ∈ lw_all := lw_g (lw_at lw_m3 211 rfl) rfl
theorem q752 : (Jvm.Cond.code ({ cls := "java/lang/String", name := "isLatin1", desc := "()Z" } : Jvm.MethodName) prog_36_method_154_code (1 : Nat) (Option.some Jvm.ClassFile.FieldType.boolean)) ∈ lw_all := lw_g (lw_at lw_m3 212 rfl) rfl
theorem q753 : (Jvm.Cond.fieldLink "java/lang/String" (38 : Nat) "java/lang/String" "COMPACT_STRINGS" "Z") ∈ lw_all := lw_g (lw_at lw_m3 213 rfl) rfl
theorem q754 : (Jvm.Cond.laysStatic "java/lang/String" "COMPACT_STRINGS" "Z") ∈ lw_tbl := lw_at lw_m3 214 rfl
theorem q755 : (Jvm.Cond.methodLink "java/lang/String" (505 : Nat) ({ cls := "java/lang/String", name := "length", desc := "()I" } : Jvm.MethodName)) ∈ lw_all := lw_g (lw_at lw_m3 215 rfl) rfl
theorem q756 : (Jvm.Cond.instanceMethod ({ cls := "java/lang/String", name := "length", desc := "()I" } : Jvm.MethodName)) ∈ lw_all := lw_g (lw_at lw_m3 216 rfl) rfl
theorem q757 : (Jvm.Cond.selects "java/lang/String" ({ cls := "java/lang/String", name := "length", desc := "()I" } : Jvm.MethodName) ({ cls := "java/lang/String", name := "length", desc := "()I" } : Jvm.MethodName)) ∈ lw_all := lw_g (lw_at lw_m3 217 rfl) rfl
theorem q758 : (Jvm.Cond.code ({ cls := "java/lang/String", name := "length", desc := "()I" } : Jvm.MethodName) prog_36_method_54_code (1 : Nat) (Option.some Jvm.ClassFile.FieldType.int)) ∈ lw_all := lw_g (lw_at lw_m3 218 rfl) rfl
theorem q759 : (Jvm.Cond.methodLink "java/lang/String" (335 : Nat) ({ cls := "java/lang/String", name := "coder", desc := "()B" } : Jvm.MethodName)) ∈ lw_all := lw_g (lw_at lw_m3 219 rfl) rfl
theorem q760 : (Jvm.Cond.instanceMethod ({ cls := "java/lang/String", name := "coder", desc := "()B" } : Jvm.MethodName)) ∈ lw_all := lw_g (lw_at lw_m3 220 rfl) rfl
theorem q761 : (Jvm.Cond.selects "java/lang/String" ({ cls := "java/lang/String", name := "coder", desc := "()B" } : Jvm.MethodName) ({ cls := "java/lang/String", name := "coder", desc := "()B" } : Jvm.MethodName)) ∈ lw_all := lw_g (lw_at lw_m3 221 rfl) rfl
theorem q762 : (Jvm.Cond.code ({ cls := "java/lang/String", name := "coder", desc := "()B" } : Jvm.MethodName) prog_36_method_152_code (1 : Nat) (Option.some Jvm.ClassFile.FieldType.byte)) ∈ lw_all := lw_g (lw_at lw_m3 222 rfl) rfl
theorem q763 : (Jvm.Cond.methodLink "java/lang/String" (637 : Nat) ({ cls := "java/lang/StringLatin1", name := "indexOf", desc := "([BIII)I" } : Jvm.MethodName)) ∈ lw_all := lw_g (lw_at lw_m3 223 rfl) rfl
theorem q774 : (Jvm.Cond.methodLink "java/lang/String" (640 : Nat) ({ cls := "java/lang/StringUTF16", name := "indexOf", desc := "([BIII)I" } : Jvm.MethodName)) ∈ lw_all := lw_g (lw_at lw_m3 234 rfl) rfl
theorem q790 : (Jvm.Cond.static ({ cls := "java/lang/String", name := "checkBoundsBeginEnd", desc := "(III)V" } : Jvm.MethodName)) ∈ lw_all := lw_g (lw_at lw_m4 10 rfl) rfl
theorem q791 : (Jvm.Cond.code ({ cls := "java/lang/String", name := "checkBoundsBeginEnd", desc := "(III)V" } : Jvm.MethodName) prog_36_method_158_code (3 : Nat) (Option.none : Option Jvm.ClassFile.FieldType)) ∈ lw_all := lw_g (lw_at lw_m4 11 rfl) rfl
theorem q792 : (Jvm.Cond.fieldLink "java/lang/String" (1053 : Nat) "jdk/internal/util/Preconditions" "SIOOBE_FORMATTER" "Ljava/util/function/BiFunction;") ∈ lw_all := lw_g (lw_at lw_m4 12 rfl) rfl
theorem q794 : (Jvm.Cond.methodLink "java/lang/String" (1062 : Nat) ({ cls := "jdk/internal/util/Preconditions", name := "checkFromToIndex", desc := "(IIILjava/util/function/BiFunction;)I" } : Jvm.MethodName)) ∈ lw_all := lw_g (lw_at lw_m4 14 rfl) rfl
theorem q1876 : (Jvm.Cond.fieldLink "java/lang/String" (15 : Nat) "java/lang/String" "coder" "B") ∈ lw_all := lw_g (lw_at lw_m8 136 rfl) rfl
theorem q1877 : (Jvm.Cond.fieldLink "java/lang/String" (9 : Nat) "java/lang/String" "value" "[B") ∈ lw_all := lw_g (lw_at lw_m8 137 rfl) rfl
/-! java/lang/StringLatin1 -/
set_option maxRecDepth 100000
def RJ5 : String := "java/lang/StringLatin1"
abbrev cJ5_indexOf : ByteArray := prog_37_method_22_code
def yJ5_indexOf : MethodName := ⟨RJ5, "indexOf", "([BIII)I"⟩
def dkwJ5_indexOf_1 : List UInt8 := [161, 0, 5, 2, 172, 42, 27, 28, 29, 184, 0, 95, 172]
abbrev dktJ5_indexOf_1 : List UInt8 := dkwJ5_indexOf_1 ++ []
def dkwJ5_indexOf_0 : List UInt8 := [27, 184, 0, 88, 154, 0, 5, 2, 172, 28, 3, 184, 0, 92, 61, 29, 42, 190, 184, 0, 38, 62, 28, 29]
abbrev dktJ5_indexOf_0 : List UInt8 := dkwJ5_indexOf_0 ++ dktJ5_indexOf_1
theorem dksJ5_indexOf_0 : cJ5_indexOf.data.toList.drop 0 = dktJ5_indexOf_0 := by decide +kernel
theorem dksJ5_indexOf_1 : cJ5_indexOf.data.toList.drop 24 = dktJ5_indexOf_1 := dk_seg dksJ5_indexOf_0 24 rfl rfl
theorem dJ5_indexOf_0 : decode cJ5_indexOf 0 = .ok (.iload_n 1, 1) := dk_27 (dk_at dksJ5_indexOf_0 0 rfl rfl)
theorem dJ5_indexOf_1 : decode cJ5_indexOf 1 = .ok (.invokestatic 88, 3) := dk_184 0 88 (dk_at dksJ5_indexOf_0 1 rfl rfl)
theorem dJ5_indexOf_4 : decode cJ5_indexOf 4 = .ok (.ifCond .ne 5, 3) := dk_154 0 5 (dk_at dksJ5_indexOf_0 4 rfl rfl)
theorem dJ5_indexOf_7 : decode cJ5_indexOf 7 = .ok (.iconst (-1), 1) := dk_2 (dk_at dksJ5_indexOf_0 7 rfl rfl)
theorem dJ5_indexOf_8 : decode cJ5_indexOf 8 = .ok (.ireturn, 1) := dk_172 (dk_at dksJ5_indexOf_0 8 rfl rfl)
theorem dJ5_indexOf_9 : decode cJ5_indexOf 9 = .ok (.iload_n 2, 1) := dk_28 (dk_at dksJ5_indexOf_0 9 rfl rfl)
theorem dJ5_indexOf_10 : decode cJ5_indexOf 10 = .ok (.iconst 0, 1) := dk_3 (dk_at dksJ5_indexOf_0 10 rfl rfl)
theorem dJ5_indexOf_11 : decode cJ5_indexOf 11 = .ok (.invokestatic 92, 3) := dk_184 0 92 (dk_at dksJ5_indexOf_0 11 rfl rfl)
theorem dJ5_indexOf_14 : decode cJ5_indexOf 14 = .ok (.istore_n 2, 1) := dk_61 (dk_at dksJ5_indexOf_0 14 rfl rfl)
theorem dJ5_indexOf_15 : decode cJ5_indexOf 15 = .ok (.iload_n 3, 1) := dk_29 (dk_at dksJ5_indexOf_0 15 rfl rfl)
theorem dJ5_indexOf_16 : decode cJ5_indexOf 16 = .ok (.aload_n 0, 1) := dk_42 (dk_at dksJ5_indexOf_0 16 rfl rfl)
theorem dJ5_indexOf_17 : decode cJ5_indexOf 17 = .ok (.arraylength, 1) := dk_190 (dk_at dksJ5_indexOf_0 17 rfl rfl)
theorem dJ5_indexOf_18 : decode cJ5_indexOf 18 = .ok (.invokestatic 38, 3) := dk_184 0 38 (dk_at dksJ5_indexOf_0 18 rfl rfl)
theorem dJ5_indexOf_21 : decode cJ5_indexOf 21 = .ok (.istore_n 3, 1) := dk_62 (dk_at dksJ5_indexOf_0 21 rfl rfl)
theorem dJ5_indexOf_22 : decode cJ5_indexOf 22 = .ok (.iload_n 2, 1) := dk_28 (dk_at dksJ5_indexOf_0 22 rfl rfl)
theorem dJ5_indexOf_23 : decode cJ5_indexOf 23 = .ok (.iload_n 3, 1) := dk_29 (dk_at dksJ5_indexOf_0 23 rfl rfl)
theorem dJ5_indexOf_24 : decode cJ5_indexOf 24 = .ok (.if_icmp .lt 5, 3) := dk_161 0 5 (dk_at dksJ5_indexOf_1 0 rfl rfl)
theorem dJ5_indexOf_27 : decode cJ5_indexOf 27 = .ok (.iconst (-1), 1) := dk_2 (dk_at dksJ5_indexOf_1 3 rfl rfl)
theorem dJ5_indexOf_28 : decode cJ5_indexOf 28 = .ok (.ireturn, 1) := dk_172 (dk_at dksJ5_indexOf_1 4 rfl rfl)
theorem dJ5_indexOf_29 : decode cJ5_indexOf 29 = .ok (.aload_n 0, 1) := dk_42 (dk_at dksJ5_indexOf_1 5 rfl rfl)
theorem dJ5_indexOf_30 : decode cJ5_indexOf 30 = .ok (.iload_n 1, 1) := dk_27 (dk_at dksJ5_indexOf_1 6 rfl rfl)
theorem dJ5_indexOf_31 : decode cJ5_indexOf 31 = .ok (.iload_n 2, 1) := dk_28 (dk_at dksJ5_indexOf_1 7 rfl rfl)
theorem dJ5_indexOf_32 : decode cJ5_indexOf 32 = .ok (.iload_n 3, 1) := dk_29 (dk_at dksJ5_indexOf_1 8 rfl rfl)
theorem dJ5_indexOf_33 : decode cJ5_indexOf 33 = .ok (.invokestatic 95, 3) := dk_184 0 95 (dk_at dksJ5_indexOf_1 9 rfl rfl)
theorem dJ5_indexOf_36 : decode cJ5_indexOf 36 = .ok (.ireturn, 1) := dk_172 (dk_at dksJ5_indexOf_1 12 rfl rfl)
abbrev cJ5_canEncode : ByteArray := prog_37_method_4_code
def yJ5_canEncode : MethodName := ⟨RJ5, "canEncode", "(I)Z"⟩
def dkwJ5_canEncode_0 : List UInt8 := [26, 155, 0, 14, 26, 17, 0, 255, 163, 0, 7, 4, 167, 0, 4, 3, 172]
abbrev dktJ5_canEncode_0 : List UInt8 := dkwJ5_canEncode_0 ++ []
theorem dksJ5_canEncode_0 : cJ5_canEncode.data.toList.drop 0 = dktJ5_canEncode_0 := by decide +kernel
theorem dJ5_canEncode_0 : decode cJ5_canEncode 0 = .ok (.iload_n 0, 1) := dk_26 (dk_at dksJ5_canEncode_0 0 rfl rfl)
theorem dJ5_canEncode_1 : decode cJ5_canEncode 1 = .ok (.ifCond .lt 14, 3) := dk_155 0 14 (dk_at dksJ5_canEncode_0 1 rfl rfl)
theorem dJ5_canEncode_4 : decode cJ5_canEncode 4 = .ok (.iload_n 0, 1) := dk_26 (dk_at dksJ5_canEncode_0 4 rfl rfl)
theorem dJ5_canEncode_5 : decode cJ5_canEncode 5 = .ok (.sipush 255, 3) := dk_17 0 255 (dk_at dksJ5_canEncode_0 5 rfl rfl)
theorem dJ5_canEncode_8 : decode cJ5_canEncode 8 = .ok (.if_icmp .gt 7, 3) := dk_163 0 7 (dk_at dksJ5_canEncode_0 8 rfl rfl)
theorem dJ5_canEncode_11 : decode cJ5_canEncode 11 = .ok (.iconst 1, 1) := dk_4 (dk_at dksJ5_canEncode_0 11 rfl rfl)
theorem dJ5_canEncode_12 : decode cJ5_canEncode 12 = .ok (.goto 4, 3) := dk_167 0 4 (dk_at dksJ5_canEncode_0 12 rfl rfl)
theorem dJ5_canEncode_15 : decode cJ5_canEncode 15 = .ok (.iconst 0, 1) := dk_3 (dk_at dksJ5_canEncode_0 15 rfl rfl)
theorem dJ5_canEncode_16 : decode cJ5_canEncode 16 = .ok (.ireturn, 1) := dk_172 (dk_at dksJ5_canEncode_0 16 rfl rfl)
abbrev cJ5_indexOfChar : ByteArray := prog_37_method_23_code
def yJ5_indexOfChar : MethodName := ⟨RJ5, "indexOfChar", "([BIII)I"⟩
def dkwJ5_indexOfChar_1 : List UInt8 := [172, 132, 5, 1, 167, 255, 235, 2, 172]
abbrev dktJ5_indexOfChar_1 : List UInt8 := dkwJ5_indexOfChar_1 ++ []
def dkwJ5_indexOfChar_0 : List UInt8 := [27, 145, 54, 4, 28, 54, 5, 21, 5, 29, 162, 0, 21, 42, 21, 5, 51, 21, 4, 160, 0, 6, 21, 5]
abbrev dktJ5_indexOfChar_0 : List UInt8 := dkwJ5_indexOfChar_0 ++ dktJ5_indexOfChar_1
theorem dksJ5_indexOfChar_0 : cJ5_indexOfChar.data.toList.drop 0 = dktJ5_indexOfChar_0 := by decide +kernel
theorem dksJ5_indexOfChar_1 : cJ5_indexOfChar.data.toList.drop 24 = dktJ5_indexOfChar_1 := dk_seg dksJ5_indexOfChar_0 24 rfl rfl
theorem dJ5_indexOfChar_0 : decode cJ5_indexOfChar 0 = .ok (.iload_n 1, 1) := dk_27 (dk_at dksJ5_indexOfChar_0 0 rfl rfl)
theorem dJ5_indexOfChar_1 : decode cJ5_indexOfChar 1 = .ok (.i2b, 1) := dk_145 (dk_at dksJ5_indexOfChar_0 1 rfl rfl)
theorem dJ5_indexOfChar_2 : decode cJ5_indexOfChar 2 = .ok (.istore 4, 2) := dk_54 4 (dk_at dksJ5_indexOfChar_0 2 rfl rfl)
theorem dJ5_indexOfChar_4 : decode cJ5_indexOfChar 4 = .ok (.iload_n 2, 1) := dk_28 (dk_at dksJ5_indexOfChar_0 4 rfl rfl)
theorem dJ5_indexOfChar_5 : decode cJ5_indexOfChar 5 = .ok (.istore 5, 2) := dk_54 5 (dk_at dksJ5_indexOfChar_0 5 rfl rfl)
theorem dJ5_indexOfChar_7 : decode cJ5_indexOfChar 7 = .ok (.iload 5, 2) := dk_21 5 (dk_at dksJ5_indexOfChar_0 7 rfl rfl)
theorem dJ5_indexOfChar_9 : decode cJ5_indexOfChar 9 = .ok (.iload_n 3, 1) := dk_29 (dk_at dksJ5_indexOfChar_0 9 rfl rfl)
theorem dJ5_indexOfChar_10 : decode cJ5_indexOfChar 10 = .ok (.if_icmp .ge 21, 3) := dk_162 0 21 (dk_at dksJ5_indexOfChar_0 10 rfl rfl)
theorem dJ5_indexOfChar_13 : decode cJ5_indexOfChar 13 = .ok (.aload_n 0, 1) := dk_42 (dk_at dksJ5_indexOfChar_0 13 rfl rfl)
theorem dJ5_indexOfChar_14 : decode cJ5_indexOfChar 14 = .ok (.iload 5, 2) := dk_21 5 (dk_at dksJ5_indexOfChar_0 14 rfl rfl)
theorem dJ5_indexOfChar_16 : decode cJ5_indexOfChar 16 = .ok (.baload, 1) := dk_51 (dk_at dksJ5_indexOfChar_0 16 rfl rfl)
theorem dJ5_indexOfChar_17 : decode cJ5_indexOfChar 17 = .ok (.iload 4, 2) := dk_21 4 (dk_at dksJ5_indexOfChar_0 17 rfl rfl)
theorem dJ5_indexOfChar_19 : decode cJ5_indexOfChar 19 = .ok (.if_icmp .ne 6, 3) := dk_160 0 6 (dk_at dksJ5_indexOfChar_0 19 rfl rfl)
theorem dJ5_indexOfChar_22 : decode cJ5_indexOfChar 22 = .ok (.iload 5, 2) := dk_21 5 (dk_at dksJ5_indexOfChar_0 22 rfl rfl)
theorem dJ5_indexOfChar_24 : decode cJ5_indexOfChar 24 = .ok (.ireturn, 1) := dk_172 (dk_at dksJ5_indexOfChar_1 0 rfl rfl)
theorem dJ5_indexOfChar_25 : decode cJ5_indexOfChar 25 = .ok (.iinc 5 1, 3) := dk_132 5 1 (dk_at dksJ5_indexOfChar_1 1 rfl rfl)
theorem dJ5_indexOfChar_28 : decode cJ5_indexOfChar 28 = .ok (.goto (-21), 3) := dk_167 255 235 (dk_at dksJ5_indexOfChar_1 4 rfl rfl)
theorem dJ5_indexOfChar_31 : decode cJ5_indexOfChar 31 = .ok (.iconst (-1), 1) := dk_2 (dk_at dksJ5_indexOfChar_1 7 rfl rfl)
theorem dJ5_indexOfChar_32 : decode cJ5_indexOfChar 32 = .ok (.ireturn, 1) := dk_172 (dk_at dksJ5_indexOfChar_1 8 rfl rfl)
theorem q83 : (Jvm.Cond.initialized "java/lang/StringLatin1") ∈ lw_all := lw_g (lw_at lw_m1 23 rfl) rfl
theorem q764 : (Jvm.Cond.static ({ cls := "java/lang/StringLatin1", name := "indexOf", desc := "([BIII)I" } : Jvm.MethodName)) ∈ lw_all := lw_g (lw_at lw_m3 224 rfl) rfl
theorem q765 : (Jvm.Cond.code ({ cls := "java/lang/StringLatin1", name := "indexOf", desc := "([BIII)I" } : Jvm.MethodName) prog_37_method_22_code (4 : Nat) (Option.some Jvm.ClassFile.FieldType.int)) ∈ lw_all := lw_g (lw_at lw_m3 225 rfl) rfl
theorem q766 : (Jvm.Cond.methodLink "java/lang/StringLatin1" (88 : Nat) ({ cls := "java/lang/StringLatin1", name := "canEncode", desc := "(I)Z" } : Jvm.MethodName)) ∈ lw_all := lw_g (lw_at lw_m3 226 rfl) rfl
theorem q767 : (Jvm.Cond.static ({ cls := "java/lang/StringLatin1", name := "canEncode", desc := "(I)Z" } : Jvm.MethodName)) ∈ lw_all := lw_g (lw_at lw_m3 227 rfl) rfl
theorem q768 : (Jvm.Cond.code ({ cls := "java/lang/StringLatin1", name := "canEncode", desc := "(I)Z" } : Jvm.MethodName) prog_37_method_4_code (1 : Nat) (Option.some Jvm.ClassFile.FieldType.boolean)) ∈ lw_all := lw_g (lw_at lw_m3 228 rfl) rfl
theorem q769 : (Jvm.Cond.methodLink "java/lang/StringLatin1" (92 : Nat) ({ cls := "java/lang/Math", name := "max", desc := "(II)I" } : Jvm.MethodName)) ∈ lw_all := lw_g (lw_at lw_m3 229 rfl) rfl
theorem q770 : (Jvm.Cond.methodLink "java/lang/StringLatin1" (38 : Nat) ({ cls := "java/lang/Math", name := "min", desc := "(II)I" } : Jvm.MethodName)) ∈ lw_all := lw_g (lw_at lw_m3 230 rfl) rfl
theorem q771 : (Jvm.Cond.methodLink "java/lang/StringLatin1" (95 : Nat) ({ cls := "java/lang/StringLatin1", name := "indexOfChar", desc := "([BIII)I" } : Jvm.MethodName)) ∈ lw_all := lw_g (lw_at lw_m3 231 rfl) rfl
theorem q772 : (Jvm.Cond.static ({ cls := "java/lang/StringLatin1", name := "indexOfChar", desc := "([BIII)I" } : Jvm.MethodName)) ∈ lw_all := lw_g (lw_at lw_m3 232 rfl) rfl
theorem q773 : (Jvm.Cond.code ({ cls := "java/lang/StringLatin1", name := "indexOfChar", desc := "([BIII)I" } : Jvm.MethodName) prog_37_method_23_code (6 : Nat) (Option.some Jvm.ClassFile.FieldType.int)) ∈ lw_all := lw_g (lw_at lw_m3 233 rfl) rfl
/-! java/lang/StringUTF16 -/
set_option maxRecDepth 100000
def RJ6 : String := "java/lang/StringUTF16"
abbrev cJ6_indexOf : ByteArray := prog_38_method_40_code
def yJ6_indexOf : MethodName := ⟨RJ6, "indexOf", "([BIII)I"⟩
def dkwJ6_indexOf_1 : List UInt8 := [18, 227, 162, 0, 11, 42, 27, 28, 29, 184, 0, 228, 172, 42, 27, 28, 29, 184, 0, 232, 172]
abbrev dktJ6_indexOf_1 : List UInt8 := dkwJ6_indexOf_1 ++ []
def dkwJ6_indexOf_0 : List UInt8 := [28, 3, 184, 0, 224, 61, 29, 42, 190, 4, 122, 184, 0, 183, 62, 28, 29, 161, 0, 5, 2, 172, 27]
abbrev dktJ6_indexOf_0 : List UInt8 := dkwJ6_indexOf_0 ++ dktJ6_indexOf_1
theorem dksJ6_indexOf_0 : cJ6_indexOf.data.toList.drop 0 = dktJ6_indexOf_0 := by decide +kernel
theorem dksJ6_indexOf_1 : cJ6_indexOf.data.toList.drop 23 = dktJ6_indexOf_1 := dk_seg dksJ6_indexOf_0 23 rfl rfl
theorem dJ6_indexOf_0 : decode cJ6_indexOf 0 = .ok (.iload_n 2, 1) := dk_28 (dk_at dksJ6_indexOf_0 0 rfl rfl)
theorem dJ6_indexOf_1 : decode cJ6_indexOf 1 = .ok (.iconst 0, 1) := dk_3 (dk_at dksJ6_indexOf_0 1 rfl rfl)
theorem dJ6_indexOf_2 : decode cJ6_indexOf 2 = .ok (.invokestatic 224, 3) := dk_184 0 224 (dk_at dksJ6_indexOf_0 2 rfl rfl)
theorem dJ6_indexOf_5 : decode cJ6_indexOf 5 = .ok (.istore_n 2, 1) := dk_61 (dk_at dksJ6_indexOf_0 5 rfl rfl)
theorem dJ6_indexOf_6 : decode cJ6_indexOf 6 = .ok (.iload_n 3, 1) := dk_29 (dk_at dksJ6_indexOf_0 6 rfl rfl)
theorem dJ6_indexOf_7 : decode cJ6_indexOf 7 = .ok (.aload_n 0, 1) := dk_42 (dk_at dksJ6_indexOf_0 7 rfl rfl)
theorem dJ6_indexOf_8 : decode cJ6_indexOf 8 = .ok (.arraylength, 1) := dk_190 (dk_at dksJ6_indexOf_0 8 rfl rfl)
theorem dJ6_indexOf_9 : decode cJ6_indexOf 9 = .ok (.iconst 1, 1) := dk_4 (dk_at dksJ6_indexOf_0 9 rfl rfl)
theorem dJ6_indexOf_10 : decode cJ6_indexOf 10 = .ok (.ishr, 1) := dk_122 (dk_at dksJ6_indexOf_0 10 rfl rfl)
theorem dJ6_indexOf_11 : decode cJ6_indexOf 11 = .ok (.invokestatic 183, 3) := dk_184 0 183 (dk_at dksJ6_indexOf_0 11 rfl rfl)
theorem dJ6_indexOf_14 : decode cJ6_indexOf 14 = .ok (.istore_n 3, 1) := dk_62 (dk_at dksJ6_indexOf_0 14 rfl rfl)
theorem dJ6_indexOf_15 : decode cJ6_indexOf 15 = .ok (.iload_n 2, 1) := dk_28 (dk_at dksJ6_indexOf_0 15 rfl rfl)
theorem dJ6_indexOf_16 : decode cJ6_indexOf 16 = .ok (.iload_n 3, 1) := dk_29 (dk_at dksJ6_indexOf_0 16 rfl rfl)
theorem dJ6_indexOf_17 : decode cJ6_indexOf 17 = .ok (.if_icmp .lt 5, 3) := dk_161 0 5 (dk_at dksJ6_indexOf_0 17 rfl rfl)
theorem dJ6_indexOf_20 : decode cJ6_indexOf 20 = .ok (.iconst (-1), 1) := dk_2 (dk_at dksJ6_indexOf_0 20 rfl rfl)
theorem dJ6_indexOf_21 : decode cJ6_indexOf 21 = .ok (.ireturn, 1) := dk_172 (dk_at dksJ6_indexOf_0 21 rfl rfl)
theorem dJ6_indexOf_22 : decode cJ6_indexOf 22 = .ok (.iload_n 1, 1) := dk_27 (dk_at dksJ6_indexOf_0 22 rfl rfl)
theorem dJ6_indexOf_23 : decode cJ6_indexOf 23 = .ok (.ldc 227, 2) := dk_18 227 (dk_at dksJ6_indexOf_1 0 rfl rfl)
theorem dJ6_indexOf_25 : decode cJ6_indexOf 25 = .ok (.if_icmp .ge 11, 3) := dk_162 0 11 (dk_at dksJ6_indexOf_1 2 rfl rfl)
theorem dJ6_indexOf_28 : decode cJ6_indexOf 28 = .ok (.aload_n 0, 1) := dk_42 (dk_at dksJ6_indexOf_1 5 rfl rfl)
theorem dJ6_indexOf_29 : decode cJ6_indexOf 29 = .ok (.iload_n 1, 1) := dk_27 (dk_at dksJ6_indexOf_1 6 rfl rfl)
theorem dJ6_indexOf_30 : decode cJ6_indexOf 30 = .ok (.iload_n 2, 1) := dk_28 (dk_at dksJ6_indexOf_1 7 rfl rfl)
theorem dJ6_indexOf_31 : decode cJ6_indexOf 31 = .ok (.iload_n 3, 1) := dk_29 (dk_at dksJ6_indexOf_1 8 rfl rfl)
theorem dJ6_indexOf_32 : decode cJ6_indexOf 32 = .ok (.invokestatic 228, 3) := dk_184 0 228 (dk_at dksJ6_indexOf_1 9 rfl rfl)
theorem dJ6_indexOf_35 : decode cJ6_indexOf 35 = .ok (.ireturn, 1) := dk_172 (dk_at dksJ6_indexOf_1 12 rfl rfl)
theorem dJ6_indexOf_36 : decode cJ6_indexOf 36 = .ok (.aload_n 0, 1) := dk_42 (dk_at dksJ6_indexOf_1 13 rfl rfl)
theorem dJ6_indexOf_37 : decode cJ6_indexOf 37 = .ok (.iload_n 1, 1) := dk_27 (dk_at dksJ6_indexOf_1 14 rfl rfl)
theorem dJ6_indexOf_38 : decode cJ6_indexOf 38 = .ok (.iload_n 2, 1) := dk_28 (dk_at dksJ6_indexOf_1 15 rfl rfl)
theorem dJ6_indexOf_39 : decode cJ6_indexOf 39 = .ok (.iload_n 3, 1) := dk_29 (dk_at dksJ6_indexOf_1 16 rfl rfl)
theorem dJ6_indexOf_40 : decode cJ6_indexOf 40 = .ok (.invokestatic 232, 3) := dk_184 0 232 (dk_at dksJ6_indexOf_1 17 rfl rfl)
theorem dJ6_indexOf_43 : decode cJ6_indexOf 43 = .ok (.ireturn, 1) := dk_172 (dk_at dksJ6_indexOf_1 20 rfl rfl)
abbrev cJ6_indexOfChar : ByteArray := prog_38_method_47_code
def yJ6_indexOfChar : MethodName := ⟨RJ6, "indexOfChar", "([BIII)I"⟩
def dkwJ6_indexOfChar_0 : List UInt8 := [28, 29, 42, 184, 0, 96, 42, 27, 28, 29, 184, 0, 244, 172]
abbrev dktJ6_indexOfChar_0 : List UInt8 := dkwJ6_indexOfChar_0 ++ []
theorem dksJ6_indexOfChar_0 : cJ6_indexOfChar.data.toList.drop 0 = dktJ6_indexOfChar_0 := by decide +kernel
theorem dJ6_indexOfChar_0 : decode cJ6_indexOfChar 0 = .ok (.iload_n 2, 1) := dk_28 (dk_at dksJ6_indexOfChar_0 0 rfl rfl)
theorem dJ6_indexOfChar_1 : decode cJ6_indexOfChar 1 = .ok (.iload_n 3, 1) := dk_29 (dk_at dksJ6_indexOfChar_0 1 rfl rfl)
theorem dJ6_indexOfChar_2 : decode cJ6_indexOfChar 2 = .ok (.aload_n 0, 1) := dk_42 (dk_at dksJ6_indexOfChar_0 2 rfl rfl)
theorem dJ6_indexOfChar_3 : decode cJ6_indexOfChar 3 = .ok (.invokestatic 96, 3) := dk_184 0 96 (dk_at dksJ6_indexOfChar_0 3 rfl rfl)
theorem dJ6_indexOfChar_6 : decode cJ6_indexOfChar 6 = .ok (.aload_n 0, 1) := dk_42 (dk_at dksJ6_indexOfChar_0 6 rfl rfl)
theorem dJ6_indexOfChar_7 : decode cJ6_indexOfChar 7 = .ok (.iload_n 1, 1) := dk_27 (dk_at dksJ6_indexOfChar_0 7 rfl rfl)
theorem dJ6_indexOfChar_8 : decode cJ6_indexOfChar 8 = .ok (.iload_n 2, 1) := dk_28 (dk_at dksJ6_indexOfChar_0 8 rfl rfl)
theorem dJ6_indexOfChar_9 : decode cJ6_indexOfChar 9 = .ok (.iload_n 3, 1) := dk_29 (dk_at dksJ6_indexOfChar_0 9 rfl rfl)
theorem dJ6_indexOfChar_10 : decode cJ6_indexOfChar 10 = .ok (.invokestatic 244, 3) := dk_184 0 244 (dk_at dksJ6_indexOfChar_0 10 rfl rfl)
theorem dJ6_indexOfChar_13 : decode cJ6_indexOfChar 13 = .ok (.ireturn, 1) := dk_172 (dk_at dksJ6_indexOfChar_0 13 rfl rfl)
abbrev cJ6_checkBoundsBeginEnd : ByteArray := prog_38_method_93_code
def yJ6_checkBoundsBeginEnd : MethodName := ⟨RJ6, "checkBoundsBeginEnd", "(II[B)V"⟩
def dkwJ6_checkBoundsBeginEnd_0 : List UInt8 := [26, 27, 44, 184, 0, 48, 184, 0, 241, 177]
abbrev dktJ6_checkBoundsBeginEnd_0 : List UInt8 := dkwJ6_checkBoundsBeginEnd_0 ++ []
theorem dksJ6_checkBoundsBeginEnd_0 : cJ6_checkBoundsBeginEnd.data.toList.drop 0 = dktJ6_checkBoundsBeginEnd_0 := by decide +kernel
theorem dJ6_checkBoundsBeginEnd_0 : decode cJ6_checkBoundsBeginEnd 0 = .ok (.iload_n 0, 1) := dk_26 (dk_at dksJ6_checkBoundsBeginEnd_0 0 rfl rfl)
theorem dJ6_checkBoundsBeginEnd_1 : decode cJ6_checkBoundsBeginEnd 1 = .ok (.iload_n 1, 1) := dk_27 (dk_at dksJ6_checkBoundsBeginEnd_0 1 rfl rfl)
theorem dJ6_checkBoundsBeginEnd_2 : decode cJ6_checkBoundsBeginEnd 2 = .ok (.aload_n 2, 1) := dk_44 (dk_at dksJ6_checkBoundsBeginEnd_0 2 rfl rfl)
theorem dJ6_checkBoundsBeginEnd_3 : decode cJ6_checkBoundsBeginEnd 3 = .ok (.invokestatic 48, 3) := dk_184 0 48 (dk_at dksJ6_checkBoundsBeginEnd_0 3 rfl rfl)
theorem dJ6_checkBoundsBeginEnd_6 : decode cJ6_checkBoundsBeginEnd 6 = .ok (.invokestatic 241, 3) := dk_184 0 241 (dk_at dksJ6_checkBoundsBeginEnd_0 6 rfl rfl)
theorem dJ6_checkBoundsBeginEnd_9 : decode cJ6_checkBoundsBeginEnd 9 = .ok (.return_, 1) := dk_177 (dk_at dksJ6_checkBoundsBeginEnd_0 9 rfl rfl)
abbrev cJ6_length : ByteArray := prog_38_method_6_code
def yJ6_length : MethodName := ⟨RJ6, "length", "([B)I"⟩
def dkwJ6_length_0 : List UInt8 := [42, 190, 4, 122, 172]
abbrev dktJ6_length_0 : List UInt8 := dkwJ6_length_0 ++ []
theorem dksJ6_length_0 : cJ6_length.data.toList.drop 0 = dktJ6_length_0 := by decide +kernel
theorem dJ6_length_0 : decode cJ6_length 0 = .ok (.aload_n 0, 1) := dk_42 (dk_at dksJ6_length_0 0 rfl rfl)
theorem dJ6_length_1 : decode cJ6_length 1 = .ok (.arraylength, 1) := dk_190 (dk_at dksJ6_length_0 1 rfl rfl)
theorem dJ6_length_2 : decode cJ6_length 2 = .ok (.iconst 1, 1) := dk_4 (dk_at dksJ6_length_0 2 rfl rfl)
theorem dJ6_length_3 : decode cJ6_length 3 = .ok (.ishr, 1) := dk_122 (dk_at dksJ6_length_0 3 rfl rfl)
theorem dJ6_length_4 : decode cJ6_length 4 = .ok (.ireturn, 1) := dk_172 (dk_at dksJ6_length_0 4 rfl rfl)
abbrev cJ6_indexOfCharUnsafe : ByteArray := prog_38_method_48_code
def yJ6_indexOfCharUnsafe : MethodName := ⟨RJ6, "indexOfCharUnsafe", "([BIII)I"⟩
def dkwJ6_indexOfCharUnsafe_1 : List UInt8 := [132, 4, 1, 167, 255, 234, 2, 172]
abbrev dktJ6_indexOfCharUnsafe_1 : List UInt8 := dkwJ6_indexOfCharUnsafe_1 ++ []
def dkwJ6_indexOfCharUnsafe_0 : List UInt8 := [28, 54, 4, 21, 4, 29, 162, 0, 22, 42, 21, 4, 184, 0, 71, 27, 160, 0, 6, 21, 4, 172]
abbrev dktJ6_indexOfCharUnsafe_0 : List UInt8 := dkwJ6_indexOfCharUnsafe_0 ++ dktJ6_indexOfCharUnsafe_1
theorem dksJ6_indexOfCharUnsafe_0 : cJ6_indexOfCharUnsafe.data.toList.drop 0 = dktJ6_indexOfCharUnsafe_0 := by decide +kernel
theorem dksJ6_indexOfCharUnsafe_1 : cJ6_indexOfCharUnsafe.data.toList.drop 22 = dktJ6_indexOfCharUnsafe_1 := dk_seg dksJ6_indexOfCharUnsafe_0 22 rfl rfl
theorem dJ6_indexOfCharUnsafe_0 : decode cJ6_indexOfCharUnsafe 0 = .ok (.iload_n 2, 1) := dk_28 (dk_at dksJ6_indexOfCharUnsafe_0 0 rfl rfl)
theorem dJ6_indexOfCharUnsafe_1 : decode cJ6_indexOfCharUnsafe 1 = .ok (.istore 4, 2) := dk_54 4 (dk_at dksJ6_indexOfCharUnsafe_0 1 rfl rfl)
theorem dJ6_indexOfCharUnsafe_3 : decode cJ6_indexOfCharUnsafe 3 = .ok (.iload 4, 2) := dk_21 4 (dk_at dksJ6_indexOfCharUnsafe_0 3 rfl rfl)
theorem dJ6_indexOfCharUnsafe_5 : decode cJ6_indexOfCharUnsafe 5 = .ok (.iload_n 3, 1) := dk_29 (dk_at dksJ6_indexOfCharUnsafe_0 5 rfl rfl)
theorem dJ6_indexOfCharUnsafe_6 : decode cJ6_indexOfCharUnsafe 6 = .ok (.if_icmp .ge 22, 3) := dk_162 0 22 (dk_at dksJ6_indexOfCharUnsafe_0 6 rfl rfl)
theorem dJ6_indexOfCharUnsafe_9 : decode cJ6_indexOfCharUnsafe 9 = .ok (.aload_n 0, 1) := dk_42 (dk_at dksJ6_indexOfCharUnsafe_0 9 rfl rfl)
theorem dJ6_indexOfCharUnsafe_10 : decode cJ6_indexOfCharUnsafe 10 = .ok (.iload 4, 2) := dk_21 4 (dk_at dksJ6_indexOfCharUnsafe_0 10 rfl rfl)
theorem dJ6_indexOfCharUnsafe_12 : decode cJ6_indexOfCharUnsafe 12 = .ok (.invokestatic 71, 3) := dk_184 0 71 (dk_at dksJ6_indexOfCharUnsafe_0 12 rfl rfl)
theorem dJ6_indexOfCharUnsafe_15 : decode cJ6_indexOfCharUnsafe 15 = .ok (.iload_n 1, 1) := dk_27 (dk_at dksJ6_indexOfCharUnsafe_0 15 rfl rfl)
theorem dJ6_indexOfCharUnsafe_16 : decode cJ6_indexOfCharUnsafe 16 = .ok (.if_icmp .ne 6, 3) := dk_160 0 6 (dk_at dksJ6_indexOfCharUnsafe_0 16 rfl rfl)
theorem dJ6_indexOfCharUnsafe_19 : decode cJ6_indexOfCharUnsafe 19 = .ok (.iload 4, 2) := dk_21 4 (dk_at dksJ6_indexOfCharUnsafe_0 19 rfl rfl)
theorem dJ6_indexOfCharUnsafe_21 : decode cJ6_indexOfCharUnsafe 21 = .ok (.ireturn, 1) := dk_172 (dk_at dksJ6_indexOfCharUnsafe_0 21 rfl rfl)
theorem dJ6_indexOfCharUnsafe_22 : decode cJ6_indexOfCharUnsafe 22 = .ok (.iinc 4 1, 3) := dk_132 4 1 (dk_at dksJ6_indexOfCharUnsafe_1 0 rfl rfl)
theorem dJ6_indexOfCharUnsafe_25 : decode cJ6_indexOfCharUnsafe 25 = .ok (.goto (-22), 3) := dk_167 255 234 (dk_at dksJ6_indexOfCharUnsafe_1 3 rfl rfl)
theorem dJ6_indexOfCharUnsafe_28 : decode cJ6_indexOfCharUnsafe 28 = .ok (.iconst (-1), 1) := dk_2 (dk_at dksJ6_indexOfCharUnsafe_1 6 rfl rfl)
theorem dJ6_indexOfCharUnsafe_29 : decode cJ6_indexOfCharUnsafe 29 = .ok (.ireturn, 1) := dk_172 (dk_at dksJ6_indexOfCharUnsafe_1 7 rfl rfl)
abbrev cJ6_getChar : ByteArray := prog_38_method_5_code
def yJ6_getChar : MethodName := ⟨RJ6, "getChar", "([BI)C"⟩
def dkwJ6_getChar_2 : List UInt8 := [51, 17, 0, 255, 126, 178, 0, 63, 120, 128, 146, 172]
abbrev dktJ6_getChar_2 : List UInt8 := dkwJ6_getChar_2 ++ []
def dkwJ6_getChar_1 : List UInt8 := [183, 0, 56, 191, 27, 4, 120, 60, 42, 27, 132, 1, 1, 51, 17, 0, 255, 126, 178, 0, 59, 120, 42, 27]
abbrev dktJ6_getChar_1 : List UInt8 := dkwJ6_getChar_1 ++ dktJ6_getChar_2
def dkwJ6_getChar_0 : List UInt8 := [178, 0, 44, 154, 0, 25, 27, 155, 0, 11, 27, 42, 184, 0, 48, 161, 0, 13, 187, 0, 52, 89, 18, 54]
abbrev dktJ6_getChar_0 : List UInt8 := dkwJ6_getChar_0 ++ dktJ6_getChar_1
theorem dksJ6_getChar_0 : cJ6_getChar.data.toList.drop 0 = dktJ6_getChar_0 := by decide +kernel
theorem dksJ6_getChar_1 : cJ6_getChar.data.toList.drop 24 = dktJ6_getChar_1 := dk_seg dksJ6_getChar_0 24 rfl rfl
theorem dksJ6_getChar_2 : cJ6_getChar.data.toList.drop 48 = dktJ6_getChar_2 := dk_seg dksJ6_getChar_1 24 rfl rfl
theorem dJ6_getChar_0 : decode cJ6_getChar 0 = .ok (.getstatic 44, 3) := dk_178 0 44 (dk_at dksJ6_getChar_0 0 rfl rfl)
theorem dJ6_getChar_3 : decode cJ6_getChar 3 = .ok (.ifCond .ne 25, 3) := dk_154 0 25 (dk_at dksJ6_getChar_0 3 rfl rfl)
theorem dJ6_getChar_6 : decode cJ6_getChar 6 = .ok (.iload_n 1, 1) := dk_27 (dk_at dksJ6_getChar_0 6 rfl rfl)
theorem dJ6_getChar_7 : decode cJ6_getChar 7 = .ok (.ifCond .lt 11, 3) := dk_155 0 11 (dk_at dksJ6_getChar_0 7 rfl rfl)
theorem dJ6_getChar_10 : decode cJ6_getChar 10 = .ok (.iload_n 1, 1) := dk_27 (dk_at dksJ6_getChar_0 10 rfl rfl)
theorem dJ6_getChar_11 : decode cJ6_getChar 11 = .ok (.aload_n 0, 1) := dk_42 (dk_at dksJ6_getChar_0 11 rfl rfl)
theorem dJ6_getChar_12 : decode cJ6_getChar 12 = .ok (.invokestatic 48, 3) := dk_184 0 48 (dk_at dksJ6_getChar_0 12 rfl rfl)
theorem dJ6_getChar_15 : decode cJ6_getChar 15 = .ok (.if_icmp .lt 13, 3) := dk_161 0 13 (dk_at dksJ6_getChar_0 15 rfl rfl)
theorem dJ6_getChar_18 : decode cJ6_getChar 18 = .ok (.new 52, 3) := dk_187 0 52 (dk_at dksJ6_getChar_0 18 rfl rfl)
theorem dJ6_getChar_21 : decode cJ6_getChar 21 = .ok (.dup, 1) := dk_89 (dk_at dksJ6_getChar_0 21 rfl rfl)
theorem dJ6_getChar_22 : decode cJ6_getChar 22 = .ok (.ldc 54, 2) := dk_18 54 (dk_at dksJ6_getChar_0 22 rfl rfl)
theorem dJ6_getChar_24 : decode cJ6_getChar 24 = .ok (.invokespecial 56, 3) := dk_183 0 56 (dk_at dksJ6_getChar_1 0 rfl rfl)
theorem dJ6_getChar_27 : decode cJ6_getChar 27 = .ok (.athrow, 1) := dk_191 (dk_at dksJ6_getChar_1 3 rfl rfl)
theorem dJ6_getChar_28 : decode cJ6_getChar 28 = .ok (.iload_n 1, 1) := dk_27 (dk_at dksJ6_getChar_1 4 rfl rfl)
theorem dJ6_getChar_29 : decode cJ6_getChar 29 = .ok (.iconst 1, 1) := dk_4 (dk_at dksJ6_getChar_1 5 rfl rfl)
theorem dJ6_getChar_30 : decode cJ6_getChar 30 = .ok (.ishl, 1) := dk_120 (dk_at dksJ6_getChar_1 6 rfl rfl)
theorem dJ6_getChar_31 : decode cJ6_getChar 31 = .ok (.istore_n 1, 1) := dk_60 (dk_at dksJ6_getChar_1 7 rfl rfl)
theorem dJ6_getChar_32 : decode cJ6_getChar 32 = .ok (.aload_n 0, 1) := dk_42 (dk_at dksJ6_getChar_1 8 rfl rfl)
theorem dJ6_getChar_33 : decode cJ6_getChar 33 = .ok (.iload_n 1, 1) := dk_27 (dk_at dksJ6_getChar_1 9 rfl rfl)
theorem dJ6_getChar_34 : decode cJ6_getChar 34 = .ok (.iinc 1 1, 3) := dk_132 1 1 (dk_at dksJ6_getChar_1 10 rfl rfl)
theorem dJ6_getChar_37 : decode cJ6_getChar 37 = .ok (.baload, 1) := dk_51 (dk_at dksJ6_getChar_1 13 rfl rfl)
theorem dJ6_getChar_38 : decode cJ6_getChar 38 = .ok (.sipush 255, 3) := dk_17 0 255 (dk_at dksJ6_getChar_1 14 rfl rfl)
theorem dJ6_getChar_41 : decode cJ6_getChar 41 = .ok (.iand, 1) := dk_126 (dk_at dksJ6_getChar_1 17 rfl rfl)
theorem dJ6_getChar_42 : decode cJ6_getChar 42 = .ok (.getstatic 59, 3) := dk_178 0 59 (dk_at dksJ6_getChar_1 18 rfl rfl)
theorem dJ6_getChar_45 : decode cJ6_getChar 45 = .ok (.ishl, 1) := dk_120 (dk_at dksJ6_getChar_1 21 rfl rfl)
theorem dJ6_getChar_46 : decode cJ6_getChar 46 = .ok (.aload_n 0, 1) := dk_42 (dk_at dksJ6_getChar_1 22 rfl rfl)
theorem dJ6_getChar_47 : decode cJ6_getChar 47 = .ok (.iload_n 1, 1) := dk_27 (dk_at dksJ6_getChar_1 23 rfl rfl)
theorem dJ6_getChar_48 : decode cJ6_getChar 48 = .ok (.baload, 1) := dk_51 (dk_at dksJ6_getChar_2 0 rfl rfl)
theorem dJ6_getChar_49 : decode cJ6_getChar 49 = .ok (.sipush 255, 3) := dk_17 0 255 (dk_at dksJ6_getChar_2 1 rfl rfl)
theorem dJ6_getChar_52 : decode cJ6_getChar 52 = .ok (.iand, 1) := dk_126 (dk_at dksJ6_getChar_2 4 rfl rfl)
theorem dJ6_getChar_53 : decode cJ6_getChar 53 = .ok (.getstatic 63, 3) := dk_178 0 63 (dk_at dksJ6_getChar_2 5 rfl rfl)
theorem dJ6_getChar_56 : decode cJ6_getChar 56 = .ok (.ishl, 1) := dk_120 (dk_at dksJ6_getChar_2 8 rfl rfl)
theorem dJ6_getChar_57 : decode cJ6_getChar 57 = .ok (.ior, 1) := dk_128 (dk_at dksJ6_getChar_2 9 rfl rfl)
theorem dJ6_getChar_58 : decode cJ6_getChar 58 = .ok (.i2c, 1) := dk_146 (dk_at dksJ6_getChar_2 10 rfl rfl)
theorem dJ6_getChar_59 : decode cJ6_getChar 59 = .ok (.ireturn, 1) := dk_172 (dk_at dksJ6_getChar_2 11 rfl rfl)
abbrev cJ6_indexOfSupplementary : ByteArray := prog_38_method_49_code
def yJ6_indexOfSupplementary : MethodName := ⟨RJ6, "indexOfSupplementary", "([BIII)I"⟩
def dkwJ6_indexOfSupplementary_3 : List UInt8 := [167, 255, 218, 2, 172]
abbrev dktJ6_indexOfSupplementary_3 : List UInt8 := dkwJ6_indexOfSupplementary_3 ++ []
def dkwJ6_indexOfSupplementary_2 : List UInt8 := [160, 0, 19, 42, 21, 6, 4, 96, 184, 0, 71, 21, 5, 160, 0, 6, 21, 6, 172, 132, 6, 1]
abbrev dktJ6_indexOfSupplementary_2 : List UInt8 := dkwJ6_indexOfSupplementary_2 ++ dktJ6_indexOfSupplementary_3
def dkwJ6_indexOfSupplementary_1 : List UInt8 := [184, 0, 96, 28, 54, 6, 21, 6, 29, 4, 100, 162, 0, 36, 42, 21, 6, 184, 0, 71, 21, 4]
abbrev dktJ6_indexOfSupplementary_1 : List UInt8 := dkwJ6_indexOfSupplementary_1 ++ dktJ6_indexOfSupplementary_2
def dkwJ6_indexOfSupplementary_0 : List UInt8 := [27, 184, 0, 164, 153, 0, 65, 27, 184, 0, 157, 54, 4, 27, 184, 0, 161, 54, 5, 28, 29, 42]
abbrev dktJ6_indexOfSupplementary_0 : List UInt8 := dkwJ6_indexOfSupplementary_0 ++ dktJ6_indexOfSupplementary_1
theorem dksJ6_indexOfSupplementary_0 : cJ6_indexOfSupplementary.data.toList.drop 0 = dktJ6_indexOfSupplementary_0 := by decide +kernel
theorem dksJ6_indexOfSupplementary_1 : cJ6_indexOfSupplementary.data.toList.drop 22 = dktJ6_indexOfSupplementary_1 := dk_seg dksJ6_indexOfSupplementary_0 22 rfl rfl
theorem dksJ6_indexOfSupplementary_2 : cJ6_indexOfSupplementary.data.toList.drop 44 = dktJ6_indexOfSupplementary_2 := dk_seg dksJ6_indexOfSupplementary_1 22 rfl rfl
theorem dksJ6_indexOfSupplementary_3 : cJ6_indexOfSupplementary.data.toList.drop 66 = dktJ6_indexOfSupplementary_3 := dk_seg dksJ6_indexOfSupplementary_2 22 rfl rfl
theorem dJ6_indexOfSupplementary_0 : decode cJ6_indexOfSupplementary 0 = .ok (.iload_n 1, 1) := dk_27 (dk_at dksJ6_indexOfSupplementary_0 0 rfl rfl)
theorem dJ6_indexOfSupplementary_1 : decode cJ6_indexOfSupplementary 1 = .ok (.invokestatic 164, 3) := dk_184 0 164 (dk_at dksJ6_indexOfSupplementary_0 1 rfl rfl)
theorem dJ6_indexOfSupplementary_4 : decode cJ6_indexOfSupplementary 4 = .ok (.ifCond .eq 65, 3) := dk_153 0 65 (dk_at dksJ6_indexOfSupplementary_0 4 rfl rfl)
theorem dJ6_indexOfSupplementary_7 : decode cJ6_indexOfSupplementary 7 = .ok (.iload_n 1, 1) := dk_27 (dk_at dksJ6_indexOfSupplementary_0 7 rfl rfl)
theorem dJ6_indexOfSupplementary_8 : decode cJ6_indexOfSupplementary 8 = .ok (.invokestatic 157, 3) := dk_184 0 157 (dk_at dksJ6_indexOfSupplementary_0 8 rfl rfl)
theorem dJ6_indexOfSupplementary_11 : decode cJ6_indexOfSupplementary 11 = .ok (.istore 4, 2) := dk_54 4 (dk_at dksJ6_indexOfSupplementary_0 11 rfl rfl)
theorem dJ6_indexOfSupplementary_13 : decode cJ6_indexOfSupplementary 13 = .ok (.iload_n 1, 1) := dk_27 (dk_at dksJ6_indexOfSupplementary_0 13 rfl rfl)
theorem dJ6_indexOfSupplementary_14 : decode cJ6_indexOfSupplementary 14 = .ok (.invokestatic 161, 3) := dk_184 0 161 (dk_at dksJ6_indexOfSupplementary_0 14 rfl rfl)
theorem dJ6_indexOfSupplementary_17 : decode cJ6_indexOfSupplementary 17 = .ok (.istore 5, 2) := dk_54 5 (dk_at dksJ6_indexOfSupplementary_0 17 rfl rfl)
theorem dJ6_indexOfSupplementary_19 : decode cJ6_indexOfSupplementary 19 = .ok (.iload_n 2, 1) := dk_28 (dk_at dksJ6_indexOfSupplementary_0 19 rfl rfl)
theorem dJ6_indexOfSupplementary_20 : decode cJ6_indexOfSupplementary 20 = .ok (.iload_n 3, 1) := dk_29 (dk_at dksJ6_indexOfSupplementary_0 20 rfl rfl)
theorem dJ6_indexOfSupplementary_21 : decode cJ6_indexOfSupplementary 21 = .ok (.aload_n 0, 1) := dk_42 (dk_at dksJ6_indexOfSupplementary_0 21 rfl rfl)
theorem dJ6_indexOfSupplementary_22 : decode cJ6_indexOfSupplementary 22 = .ok (.invokestatic 96, 3) := dk_184 0 96 (dk_at dksJ6_indexOfSupplementary_1 0 rfl rfl)
theorem dJ6_indexOfSupplementary_25 : decode cJ6_indexOfSupplementary 25 = .ok (.iload_n 2, 1) := dk_28 (dk_at dksJ6_indexOfSupplementary_1 3 rfl rfl)
theorem dJ6_indexOfSupplementary_26 : decode cJ6_indexOfSupplementary 26 = .ok (.istore 6, 2) := dk_54 6 (dk_at dksJ6_indexOfSupplementary_1 4 rfl rfl)
theorem dJ6_indexOfSupplementary_28 : decode cJ6_indexOfSupplementary 28 = .ok (.iload 6, 2) := dk_21 6 (dk_at dksJ6_indexOfSupplementary_1 6 rfl rfl)
theorem dJ6_indexOfSupplementary_30 : decode cJ6_indexOfSupplementary 30 = .ok (.iload_n 3, 1) := dk_29 (dk_at dksJ6_indexOfSupplementary_1 8 rfl rfl)
theorem dJ6_indexOfSupplementary_31 : decode cJ6_indexOfSupplementary 31 = .ok (.iconst 1, 1) := dk_4 (dk_at dksJ6_indexOfSupplementary_1 9 rfl rfl)
theorem dJ6_indexOfSupplementary_32 : decode cJ6_indexOfSupplementary 32 = .ok (.isub, 1) := dk_100 (dk_at dksJ6_indexOfSupplementary_1 10 rfl rfl)
theorem dJ6_indexOfSupplementary_33 : decode cJ6_indexOfSupplementary 33 = .ok (.if_icmp .ge 36, 3) := dk_162 0 36 (dk_at dksJ6_indexOfSupplementary_1 11 rfl rfl)
theorem dJ6_indexOfSupplementary_36 : decode cJ6_indexOfSupplementary 36 = .ok (.aload_n 0, 1) := dk_42 (dk_at dksJ6_indexOfSupplementary_1 14 rfl rfl)
theorem dJ6_indexOfSupplementary_37 : decode cJ6_indexOfSupplementary 37 = .ok (.iload 6, 2) := dk_21 6 (dk_at dksJ6_indexOfSupplementary_1 15 rfl rfl)
theorem dJ6_indexOfSupplementary_39 : decode cJ6_indexOfSupplementary 39 = .ok (.invokestatic 71, 3) := dk_184 0 71 (dk_at dksJ6_indexOfSupplementary_1 17 rfl rfl)
theorem dJ6_indexOfSupplementary_42 : decode cJ6_indexOfSupplementary 42 = .ok (.iload 4, 2) := dk_21 4 (dk_at dksJ6_indexOfSupplementary_1 20 rfl rfl)
theorem dJ6_indexOfSupplementary_44 : decode cJ6_indexOfSupplementary 44 = .ok (.if_icmp .ne 19, 3) := dk_160 0 19 (dk_at dksJ6_indexOfSupplementary_2 0 rfl rfl)
theorem dJ6_indexOfSupplementary_47 : decode cJ6_indexOfSupplementary 47 = .ok (.aload_n 0, 1) := dk_42 (dk_at dksJ6_indexOfSupplementary_2 3 rfl rfl)
theorem dJ6_indexOfSupplementary_48 : decode cJ6_indexOfSupplementary 48 = .ok (.iload 6, 2) := dk_21 6 (dk_at dksJ6_indexOfSupplementary_2 4 rfl rfl)
theorem dJ6_indexOfSupplementary_50 : decode cJ6_indexOfSupplementary 50 = .ok (.iconst 1, 1) := dk_4 (dk_at dksJ6_indexOfSupplementary_2 6 rfl rfl)
theorem dJ6_indexOfSupplementary_51 : decode cJ6_indexOfSupplementary 51 = .ok (.iadd, 1) := dk_96 (dk_at dksJ6_indexOfSupplementary_2 7 rfl rfl)
theorem dJ6_indexOfSupplementary_52 : decode cJ6_indexOfSupplementary 52 = .ok (.invokestatic 71, 3) := dk_184 0 71 (dk_at dksJ6_indexOfSupplementary_2 8 rfl rfl)
theorem dJ6_indexOfSupplementary_55 : decode cJ6_indexOfSupplementary 55 = .ok (.iload 5, 2) := dk_21 5 (dk_at dksJ6_indexOfSupplementary_2 11 rfl rfl)
theorem dJ6_indexOfSupplementary_57 : decode cJ6_indexOfSupplementary 57 = .ok (.if_icmp .ne 6, 3) := dk_160 0 6 (dk_at dksJ6_indexOfSupplementary_2 13 rfl rfl)
theorem dJ6_indexOfSupplementary_60 : decode cJ6_indexOfSupplementary 60 = .ok (.iload 6, 2) := dk_21 6 (dk_at dksJ6_indexOfSupplementary_2 16 rfl rfl)
theorem dJ6_indexOfSupplementary_62 : decode cJ6_indexOfSupplementary 62 = .ok (.ireturn, 1) := dk_172 (dk_at dksJ6_indexOfSupplementary_2 18 rfl rfl)
theorem dJ6_indexOfSupplementary_63 : decode cJ6_indexOfSupplementary 63 = .ok (.iinc 6 1, 3) := dk_132 6 1 (dk_at dksJ6_indexOfSupplementary_2 19 rfl rfl)
theorem dJ6_indexOfSupplementary_66 : decode cJ6_indexOfSupplementary 66 = .ok (.goto (-38), 3) := dk_167 255 218 (dk_at dksJ6_indexOfSupplementary_3 0 rfl rfl)
theorem dJ6_indexOfSupplementary_69 : decode cJ6_indexOfSupplementary 69 = .ok (.iconst (-1), 1) := dk_2 (dk_at dksJ6_indexOfSupplementary_3 3 rfl rfl)
theorem dJ6_indexOfSupplementary_70 : decode cJ6_indexOfSupplementary 70 = .ok (.ireturn, 1) := dk_172 (dk_at dksJ6_indexOfSupplementary_3 4 rfl rfl)
theorem q84 : (Jvm.Cond.initialized "java/lang/StringUTF16") ∈ lw_all := lw_g (lw_at lw_m1 24 rfl) rfl
theorem q775 : (Jvm.Cond.static ({ cls := "java/lang/StringUTF16", name := "indexOf", desc := "([BIII)I" } : Jvm.MethodName)) ∈ lw_all := lw_g (lw_at lw_m3 235 rfl) rfl
theorem q776 : (Jvm.Cond.code ({ cls := "java/lang/StringUTF16", name := "indexOf", desc := "([BIII)I" } : Jvm.MethodName) prog_38_method_40_code (4 : Nat) (Option.some Jvm.ClassFile.FieldType.int)) ∈ lw_all := lw_g (lw_at lw_m3 236 rfl) rfl
theorem q777 : (Jvm.Cond.methodLink "java/lang/StringUTF16" (224 : Nat) ({ cls := "java/lang/Math", name := "max", desc := "(II)I" } : Jvm.MethodName)) ∈ lw_all := lw_g (lw_at lw_m3 237 rfl) rfl
theorem q778 : (Jvm.Cond.methodLink "java/lang/StringUTF16" (183 : Nat) ({ cls := "java/lang/Math", name := "min", desc := "(II)I" } : Jvm.MethodName)) ∈ lw_all := lw_g (lw_at lw_m3 238 rfl) rfl
theorem q779 : (Jvm.Cond.constant "java/lang/StringUTF16" (227 : Nat) (65536 : Int32)) ∈ lw_all := lw_g (lw_at lw_m3 239 rfl) rfl
theorem q780 : (Jvm.Cond.methodLink "java/lang/StringUTF16" (228 : Nat) ({ cls := "java/lang/StringUTF16", name := "indexOfChar", desc := "([BIII)I" } : Jvm.MethodName)) ∈ lw_all := lw_g (lw_at lw_m4 0 rfl) rfl
theorem q781 : (Jvm.Cond.static ({ cls := "java/lang/StringUTF16", name := "indexOfChar", desc := "([BIII)I" } : Jvm.MethodName)) ∈ lw_all := lw_g (lw_at lw_m4 1 rfl) rfl
theorem q782 : (Jvm.Cond.code ({ cls := "java/lang/StringUTF16", name := "indexOfChar", desc := "([BIII)I" } : Jvm.MethodName) prog_38_method_47_code (4 : Nat) (Option.some Jvm.ClassFile.FieldType.int)) ∈ lw_all := lw_g (lw_at lw_m4 2 rfl) rfl
theorem q783 : (Jvm.Cond.methodLink "java/lang/StringUTF16" (96 : Nat) ({ cls := "java/lang/StringUTF16", name := "checkBoundsBeginEnd", desc := "(II[B)V" } : Jvm.MethodName)) ∈ lw_all := lw_g (lw_at lw_m4 3 rfl) rfl
theorem q784 : (Jvm.Cond.static ({ cls := "java/lang/StringUTF16", name := "checkBoundsBeginEnd", desc := "(II[B)V" } : Jvm.MethodName)) ∈ lw_all := lw_g (lw_at lw_m4 4 rfl) rfl
theorem q785 : (Jvm.Cond.code ({ cls := "java/lang/StringUTF16", name := "checkBoundsBeginEnd", desc := "(II[B)V" } : Jvm.MethodName) prog_38_method_93_code (3 : Nat) (Option.none : Option Jvm.ClassFile.FieldType)) ∈ lw_all := lw_g (lw_at lw_m4 5 rfl) rfl
theorem q786 : (Jvm.Cond.methodLink "java/lang/StringUTF16" (48 : Nat) ({ cls := "java/lang/StringUTF16", name := "length", desc := "([B)I" } : Jvm.MethodName)) ∈ lw_all := lw_g (lw_at lw_m4 6 rfl) rfl
theorem q787 : (Jvm.Cond.static ({ cls := "java/lang/StringUTF16", name := "length", desc := "([B)I" } : Jvm.MethodName)) ∈ lw_all := lw_g (lw_at lw_m4 7 rfl) rfl
theorem q788 : (Jvm.Cond.code ({ cls := "java/lang/StringUTF16", name := "length", desc := "([B)I" } : Jvm.MethodName) prog_38_method_6_code (1 : Nat) (Option.some Jvm.ClassFile.FieldType.int)) ∈ lw_all := lw_g (lw_at lw_m4 8 rfl) rfl
theorem q789 : (Jvm.Cond.methodLink "java/lang/StringUTF16" (241 : Nat) ({ cls := "java/lang/String", name := "checkBoundsBeginEnd", desc := "(III)V" } : Jvm.MethodName)) ∈ lw_all := lw_g (lw_at lw_m4 9 rfl) rfl
theorem q797 : (Jvm.Cond.methodLink "java/lang/StringUTF16" (244 : Nat) ({ cls := "java/lang/StringUTF16", name := "indexOfCharUnsafe", desc := "([BIII)I" } : Jvm.MethodName)) ∈ lw_all := lw_g (lw_at lw_m4 17 rfl) rfl
theorem q798 : (Jvm.Cond.static ({ cls := "java/lang/StringUTF16", name := "indexOfCharUnsafe", desc := "([BIII)I" } : Jvm.MethodName)) ∈ lw_all := lw_g (lw_at lw_m4 18 rfl) rfl
theorem q799 : (Jvm.Cond.code ({ cls := "java/lang/StringUTF16", name := "indexOfCharUnsafe", desc := "([BIII)I" } : Jvm.MethodName) prog_38_method_48_code (5 : Nat) (Option.some Jvm.ClassFile.FieldType.int)) ∈ lw_all := lw_g (lw_at lw_m4 19 rfl) rfl
theorem q800 : (Jvm.Cond.methodLink "java/lang/StringUTF16" (71 : Nat) ({ cls := "java/lang/StringUTF16", name := "getChar", desc := "([BI)C" } : Jvm.MethodName)) ∈ lw_all := lw_g (lw_at lw_m4 20 rfl) rfl
theorem q801 : (Jvm.Cond.static ({ cls := "java/lang/StringUTF16", name := "getChar", desc := "([BI)C" } : Jvm.MethodName)) ∈ lw_all := lw_g (lw_at lw_m4 21 rfl) rfl
theorem q802 : (Jvm.Cond.code ({ cls := "java/lang/StringUTF16", name := "getChar", desc := "([BI)C" } : Jvm.MethodName) prog_38_method_5_code (2 : Nat) (Option.some Jvm.ClassFile.FieldType.char)) ∈ lw_all := lw_g (lw_at lw_m4 22 rfl) rfl
theorem q803 : (Jvm.Cond.fieldLink "java/lang/StringUTF16" (44 : Nat) "java/lang/StringUTF16" "$assertionsDisabled" "Z") ∈ lw_all := lw_g (lw_at lw_m4 23 rfl) rfl
theorem q804 : (Jvm.Cond.laysStatic "java/lang/StringUTF16" "$assertionsDisabled" "Z") ∈ lw_tbl := lw_at lw_m4 24 rfl
theorem q805 : (Jvm.Cond.fieldLink "java/lang/StringUTF16" (59 : Nat) "java/lang/StringUTF16" "HI_BYTE_SHIFT" "I") ∈ lw_all := lw_g (lw_at lw_m4 25 rfl) rfl
theorem q806 : (Jvm.Cond.laysStatic "java/lang/StringUTF16" "HI_BYTE_SHIFT" "I") ∈ lw_tbl := lw_at lw_m4 26 rfl
theorem q807 : (Jvm.Cond.fieldLink "java/lang/StringUTF16" (63 : Nat) "java/lang/StringUTF16" "LO_BYTE_SHIFT" "I") ∈ lw_all := lw_g (lw_at lw_m4 27 rfl) rfl
theorem q808 : (Jvm.Cond.laysStatic "java/lang/StringUTF16" "LO_BYTE_SHIFT" "I") ∈ lw_tbl := lw_at lw_m4 28 rfl
theorem q809 : (Jvm.Cond.methodLink "java/lang/StringUTF16" (232 : Nat) ({ cls := "java/lang/StringUTF16", name := "indexOfSupplementary", desc := "([BIII)I" } : Jvm.MethodName)) ∈ lw_all := lw_g (lw_at lw_m4 29 rfl) rfl
theorem q810 : (Jvm.Cond.static ({ cls := "java/lang/StringUTF16", name := "indexOfSupplementary", desc := "([BIII)I" } : Jvm.MethodName)) ∈ lw_all := lw_g (lw_at lw_m4 30 rfl) rfl
theorem q811 : (Jvm.Cond.code ({ cls := "java/lang/StringUTF16", name := "indexOfSupplementary", desc := "([BIII)I" } : Jvm.MethodName) prog_38_method_49_code (7 : Nat) (Option.some Jvm.ClassFile.FieldType.int)) ∈ lw_all := lw_g (lw_at lw_m4 31 rfl) rfl
theorem q812 : (Jvm.Cond.methodLink "java/lang/StringUTF16" (164 : Nat) ({ cls := "java/lang/Character", name := "isValidCodePoint", desc := "(I)Z" } : Jvm.MethodName)) ∈ lw_all := lw_g (lw_at lw_m4 32 rfl) rfl
theorem q815 : (Jvm.Cond.methodLink "java/lang/StringUTF16" (157 : Nat) ({ cls := "java/lang/Character", name := "highSurrogate", desc := "(I)C" } : Jvm.MethodName)) ∈ lw_all := lw_g (lw_at lw_m4 35 rfl) rfl
theorem q819 : (Jvm.Cond.methodLink "java/lang/StringUTF16" (161 : Nat) ({ cls := "java/lang/Character", name := "lowSurrogate", desc := "(I)C" } : Jvm.MethodName)) ∈ lw_all := lw_g (lw_at lw_m4 39 rfl) rfl
/-! jdk/internal/util/Preconditions -/
set_option maxRecDepth 100000
def RJ7 : String := "jdk/internal/util/Preconditions"
abbrev cJ7_checkFromToIndex : ByteArray := prog_41_method_12_code
def yJ7_checkFromToIndex : MethodName := ⟨RJ7, "checkFromToIndex", "(IIILjava/util/function/BiFunction;)I"⟩
def dkwJ7_checkFromToIndex_0 : List UInt8 := [26, 155, 0, 13, 26, 27, 163, 0, 8, 27, 28, 164, 0, 11, 45, 26, 27, 28, 184, 0, 99, 191, 26, 172]
abbrev dktJ7_checkFromToIndex_0 : List UInt8 := dkwJ7_checkFromToIndex_0 ++ []
theorem dksJ7_checkFromToIndex_0 : cJ7_checkFromToIndex.data.toList.drop 0 = dktJ7_checkFromToIndex_0 := by decide +kernel
theorem dJ7_checkFromToIndex_0 : decode cJ7_checkFromToIndex 0 = .ok (.iload_n 0, 1) := dk_26 (dk_at dksJ7_checkFromToIndex_0 0 rfl rfl)
theorem dJ7_checkFromToIndex_1 : decode cJ7_checkFromToIndex 1 = .ok (.ifCond .lt 13, 3) := dk_155 0 13 (dk_at dksJ7_checkFromToIndex_0 1 rfl rfl)
theorem dJ7_checkFromToIndex_4 : decode cJ7_checkFromToIndex 4 = .ok (.iload_n 0, 1) := dk_26 (dk_at dksJ7_checkFromToIndex_0 4 rfl rfl)
theorem dJ7_checkFromToIndex_5 : decode cJ7_checkFromToIndex 5 = .ok (.iload_n 1, 1) := dk_27 (dk_at dksJ7_checkFromToIndex_0 5 rfl rfl)
theorem dJ7_checkFromToIndex_6 : decode cJ7_checkFromToIndex 6 = .ok (.if_icmp .gt 8, 3) := dk_163 0 8 (dk_at dksJ7_checkFromToIndex_0 6 rfl rfl)
theorem dJ7_checkFromToIndex_9 : decode cJ7_checkFromToIndex 9 = .ok (.iload_n 1, 1) := dk_27 (dk_at dksJ7_checkFromToIndex_0 9 rfl rfl)
theorem dJ7_checkFromToIndex_10 : decode cJ7_checkFromToIndex 10 = .ok (.iload_n 2, 1) := dk_28 (dk_at dksJ7_checkFromToIndex_0 10 rfl rfl)
theorem dJ7_checkFromToIndex_11 : decode cJ7_checkFromToIndex 11 = .ok (.if_icmp .le 11, 3) := dk_164 0 11 (dk_at dksJ7_checkFromToIndex_0 11 rfl rfl)
theorem dJ7_checkFromToIndex_14 : decode cJ7_checkFromToIndex 14 = .ok (.aload_n 3, 1) := dk_45 (dk_at dksJ7_checkFromToIndex_0 14 rfl rfl)
theorem dJ7_checkFromToIndex_15 : decode cJ7_checkFromToIndex 15 = .ok (.iload_n 0, 1) := dk_26 (dk_at dksJ7_checkFromToIndex_0 15 rfl rfl)
theorem dJ7_checkFromToIndex_16 : decode cJ7_checkFromToIndex 16 = .ok (.iload_n 1, 1) := dk_27 (dk_at dksJ7_checkFromToIndex_0 16 rfl rfl)
theorem dJ7_checkFromToIndex_17 : decode cJ7_checkFromToIndex 17 = .ok (.iload_n 2, 1) := dk_28 (dk_at dksJ7_checkFromToIndex_0 17 rfl rfl)
theorem dJ7_checkFromToIndex_18 : decode cJ7_checkFromToIndex 18 = .ok (.invokestatic 99, 3) := dk_184 0 99 (dk_at dksJ7_checkFromToIndex_0 18 rfl rfl)
theorem dJ7_checkFromToIndex_21 : decode cJ7_checkFromToIndex 21 = .ok (.athrow, 1) := dk_191 (dk_at dksJ7_checkFromToIndex_0 21 rfl rfl)
theorem dJ7_checkFromToIndex_22 : decode cJ7_checkFromToIndex 22 = .ok (.iload_n 0, 1) := dk_26 (dk_at dksJ7_checkFromToIndex_0 22 rfl rfl)
theorem dJ7_checkFromToIndex_23 : decode cJ7_checkFromToIndex 23 = .ok (.ireturn, 1) := dk_172 (dk_at dksJ7_checkFromToIndex_0 23 rfl rfl)
theorem q85 : (Jvm.Cond.initialized "jdk/internal/util/Preconditions") ∈ lw_all := lw_g (lw_at lw_m1 25 rfl) rfl
theorem q793 : (Jvm.Cond.laysStatic "jdk/internal/util/Preconditions" "SIOOBE_FORMATTER" "Ljava/util/function/BiFunction;") ∈ lw_tbl := lw_at lw_m4 13 rfl
theorem q795 : (Jvm.Cond.static ({ cls := "jdk/internal/util/Preconditions", name := "checkFromToIndex", desc := "(IIILjava/util/function/BiFunction;)I" } : Jvm.MethodName)) ∈ lw_all := lw_g (lw_at lw_m4 15 rfl) rfl
theorem q796 : (Jvm.Cond.code ({ cls := "jdk/internal/util/Preconditions", name := "checkFromToIndex", desc := "(IIILjava/util/function/BiFunction;)I" } : Jvm.MethodName) prog_41_method_12_code (4 : Nat) (Option.some Jvm.ClassFile.FieldType.int)) ∈ lw_all := lw_g (lw_at lw_m4 16 rfl) rfl
/-! java/lang/Character -/
set_option maxRecDepth 100000
def RJ8 : String := "java/lang/Character"
abbrev cJ8_isValidCodePoint : ByteArray := prog_31_method_11_code
def yJ8_isValidCodePoint : MethodName := ⟨RJ8, "isValidCodePoint", "(I)Z"⟩
def dkwJ8_isValidCodePoint_0 : List UInt8 := [26, 16, 16, 124, 60, 27, 16, 17, 162, 0, 7, 4, 167, 0, 4, 3, 172]
abbrev dktJ8_isValidCodePoint_0 : List UInt8 := dkwJ8_isValidCodePoint_0 ++ []
theorem dksJ8_isValidCodePoint_0 : cJ8_isValidCodePoint.data.toList.drop 0 = dktJ8_isValidCodePoint_0 := by decide +kernel
theorem dJ8_isValidCodePoint_0 : decode cJ8_isValidCodePoint 0 = .ok (.iload_n 0, 1) := dk_26 (dk_at dksJ8_isValidCodePoint_0 0 rfl rfl)
theorem dJ8_isValidCodePoint_1 : decode cJ8_isValidCodePoint 1 = .ok (.bipush 16, 2) := dk_16 16 (dk_at dksJ8_isValidCodePoint_0 1 rfl rfl)
theorem dJ8_isValidCodePoint_3 : decode cJ8_isValidCodePoint 3 = .ok (.iushr, 1) := dk_124 (dk_at dksJ8_isValidCodePoint_0 3 rfl rfl)
theorem dJ8_isValidCodePoint_4 : decode cJ8_isValidCodePoint 4 = .ok (.istore_n 1, 1) := dk_60 (dk_at dksJ8_isValidCodePoint_0 4 rfl rfl)
theorem dJ8_isValidCodePoint_5 : decode cJ8_isValidCodePoint 5 = .ok (.iload_n 1, 1) := dk_27 (dk_at dksJ8_isValidCodePoint_0 5 rfl rfl)
theorem dJ8_isValidCodePoint_6 : decode cJ8_isValidCodePoint 6 = .ok (.bipush 17, 2) := dk_16 17 (dk_at dksJ8_isValidCodePoint_0 6 rfl rfl)
theorem dJ8_isValidCodePoint_8 : decode cJ8_isValidCodePoint 8 = .ok (.if_icmp .ge 7, 3) := dk_162 0 7 (dk_at dksJ8_isValidCodePoint_0 8 rfl rfl)
theorem dJ8_isValidCodePoint_11 : decode cJ8_isValidCodePoint 11 = .ok (.iconst 1, 1) := dk_4 (dk_at dksJ8_isValidCodePoint_0 11 rfl rfl)
theorem dJ8_isValidCodePoint_12 : decode cJ8_isValidCodePoint 12 = .ok (.goto 4, 3) := dk_167 0 4 (dk_at dksJ8_isValidCodePoint_0 12 rfl rfl)
theorem dJ8_isValidCodePoint_15 : decode cJ8_isValidCodePoint 15 = .ok (.iconst 0, 1) := dk_3 (dk_at dksJ8_isValidCodePoint_0 15 rfl rfl)
theorem dJ8_isValidCodePoint_16 : decode cJ8_isValidCodePoint 16 = .ok (.ireturn, 1) := dk_172 (dk_at dksJ8_isValidCodePoint_0 16 rfl rfl)
abbrev cJ8_highSurrogate : ByteArray := prog_31_method_28_code
def yJ8_highSurrogate : MethodName := ⟨RJ8, "highSurrogate", "(I)C"⟩
def dkwJ8_highSurrogate_0 : List UInt8 := [26, 16, 10, 124, 18, 110, 96, 146, 172]
abbrev dktJ8_highSurrogate_0 : List UInt8 := dkwJ8_highSurrogate_0 ++ []
theorem dksJ8_highSurrogate_0 : cJ8_highSurrogate.data.toList.drop 0 = dktJ8_highSurrogate_0 := by decide +kernel
theorem dJ8_highSurrogate_0 : decode cJ8_highSurrogate 0 = .ok (.iload_n 0, 1) := dk_26 (dk_at dksJ8_highSurrogate_0 0 rfl rfl)
theorem dJ8_highSurrogate_1 : decode cJ8_highSurrogate 1 = .ok (.bipush 10, 2) := dk_16 10 (dk_at dksJ8_highSurrogate_0 1 rfl rfl)
theorem dJ8_highSurrogate_3 : decode cJ8_highSurrogate 3 = .ok (.iushr, 1) := dk_124 (dk_at dksJ8_highSurrogate_0 3 rfl rfl)
theorem dJ8_highSurrogate_4 : decode cJ8_highSurrogate 4 = .ok (.ldc 110, 2) := dk_18 110 (dk_at dksJ8_highSurrogate_0 4 rfl rfl)
theorem dJ8_highSurrogate_6 : decode cJ8_highSurrogate 6 = .ok (.iadd, 1) := dk_96 (dk_at dksJ8_highSurrogate_0 6 rfl rfl)
theorem dJ8_highSurrogate_7 : decode cJ8_highSurrogate 7 = .ok (.i2c, 1) := dk_146 (dk_at dksJ8_highSurrogate_0 7 rfl rfl)
theorem dJ8_highSurrogate_8 : decode cJ8_highSurrogate 8 = .ok (.ireturn, 1) := dk_172 (dk_at dksJ8_highSurrogate_0 8 rfl rfl)
abbrev cJ8_lowSurrogate : ByteArray := prog_31_method_29_code
def yJ8_lowSurrogate : MethodName := ⟨RJ8, "lowSurrogate", "(I)C"⟩
def dkwJ8_lowSurrogate_0 : List UInt8 := [26, 17, 3, 255, 126, 18, 76, 96, 146, 172]
abbrev dktJ8_lowSurrogate_0 : List UInt8 := dkwJ8_lowSurrogate_0 ++ []
theorem dksJ8_lowSurrogate_0 : cJ8_lowSurrogate.data.toList.drop 0 = dktJ8_lowSurrogate_0 := by decide +kernel
theorem dJ8_lowSurrogate_0 : decode cJ8_lowSurrogate 0 = .ok (.iload_n 0, 1) := dk_26 (dk_at dksJ8_lowSurrogate_0 0 rfl rfl)
theorem dJ8_lowSurrogate_1 : decode cJ8_lowSurrogate 1 = .ok (.sipush 1023, 3) := dk_17 3 255 (dk_at dksJ8_lowSurrogate_0 1 rfl rfl)
theorem dJ8_lowSurrogate_4 : decode cJ8_lowSurrogate 4 = .ok (.iand, 1) := dk_126 (dk_at dksJ8_lowSurrogate_0 4 rfl rfl)
theorem dJ8_lowSurrogate_5 : decode cJ8_lowSurrogate 5 = .ok (.ldc 76, 2) := dk_18 76 (dk_at dksJ8_lowSurrogate_0 5 rfl rfl)
theorem dJ8_lowSurrogate_7 : decode cJ8_lowSurrogate 7 = .ok (.iadd, 1) := dk_96 (dk_at dksJ8_lowSurrogate_0 7 rfl rfl)
theorem dJ8_lowSurrogate_8 : decode cJ8_lowSurrogate 8 = .ok (.i2c, 1) := dk_146 (dk_at dksJ8_lowSurrogate_0 8 rfl rfl)
theorem dJ8_lowSurrogate_9 : decode cJ8_lowSurrogate 9 = .ok (.ireturn, 1) := dk_172 (dk_at dksJ8_lowSurrogate_0 9 rfl rfl)
theorem q86 : (Jvm.Cond.initialized "java/lang/Character") ∈ lw_all := lw_g (lw_at lw_m1 26 rfl) rfl
theorem q813 : (Jvm.Cond.static ({ cls := "java/lang/Character", name := "isValidCodePoint", desc := "(I)Z" } : Jvm.MethodName)) ∈ lw_all := lw_g (lw_at lw_m4 33 rfl) rfl
theorem q814 : (Jvm.Cond.code ({ cls := "java/lang/Character", name := "isValidCodePoint", desc := "(I)Z" } : Jvm.MethodName) prog_31_method_11_code (2 : Nat) (Option.some Jvm.ClassFile.FieldType.boolean)) ∈ lw_all := lw_g (lw_at lw_m4 34 rfl) rfl
theorem q816 : (Jvm.Cond.static ({ cls := "java/lang/Character", name := "highSurrogate", desc := "(I)C" } : Jvm.MethodName)) ∈ lw_all := lw_g (lw_at lw_m4 36 rfl) rfl
theorem q817 : (Jvm.Cond.code ({ cls := "java/lang/Character", name := "highSurrogate", desc := "(I)C" } : Jvm.MethodName) prog_31_method_28_code (1 : Nat) (Option.some Jvm.ClassFile.FieldType.char)) ∈ lw_all := lw_g (lw_at lw_m4 37 rfl) rfl
theorem q818 : (Jvm.Cond.constant "java/lang/Character" (110 : Nat) (55232 : Int32)) ∈ lw_all := lw_g (lw_at lw_m4 38 rfl) rfl
theorem q820 : (Jvm.Cond.static ({ cls := "java/lang/Character", name := "lowSurrogate", desc := "(I)C" } : Jvm.MethodName)) ∈ lw_all := lw_g (lw_at lw_m4 40 rfl) rfl
theorem q821 : (Jvm.Cond.code ({ cls := "java/lang/Character", name := "lowSurrogate", desc := "(I)C" } : Jvm.MethodName) prog_31_method_29_code (1 : Nat) (Option.some Jvm.ClassFile.FieldType.char)) ∈ lw_all := lw_g (lw_at lw_m4 41 rfl) rfl
theorem q822 : (Jvm.Cond.constant "java/lang/Character" (76 : Nat) (56320 : Int32)) ∈ lw_all := lw_g (lw_at lw_m4 42 rfl) rfl
/-! MeadowMilk$Finding -/
set_option maxRecDepth 100000
def RX1 : String := "MeadowMilk$Finding"
def TX1 : u_T := fun k => match k with
  | 0 => ("java/lang/Throwable", "cause", "Ljava/lang/Throwable;", false)
  | 1 => ("java/lang/Throwable", "stackTrace", "[Ljava/lang/StackTraceElement;", false)
  | 2 => ("java/lang/Throwable", "suppressedExceptions", "Ljava/util/List;", false)
  | 3 => ("java/lang/Throwable", "detailMessage", "Ljava/lang/String;", false)
  | 4 => ("java/lang/Throwable", "backtrace", "Ljava/lang/Object;", false)
  | 5 => ("java/lang/Throwable", "depth", "I", false)
  | _ => ("MeadowMilk$Finding", "code", "I", false)
def tyX1 : Nat → FieldType := fun k => match k with
  | 0 => .object "java/lang/Throwable"
  | 1 => .array (.object "java/lang/StackTraceElement")
  | 2 => .object "java/util/List"
  | 3 => .object "java/lang/String"
  | 4 => .object "java/lang/Object"
  | 5 => .int
  | _ => .int
abbrev wsX10 : List Cond := u_ws RX1 TX1 7
theorem nmX1 : ∀ a, a < 7 → ∀ b, b < 7 → a ≠ b → (TX1 a).2.1 ≠ (TX1 b).2.1 := by decide +kernel
theorem tyX1_ok : ∀ k, k < 7 → parseFieldDescriptor (TX1 k).2.2.1 = some (tyX1 k) := by decide +kernel
abbrev cX1_init : ByteArray := prog_8_method_1_code
def yX1_init : MethodName := ⟨RX1, "<init>", "()V"⟩
def dkwX1_init_0 : List UInt8 := [42, 1, 1, 3, 3, 183, 0, 1, 177]
abbrev dktX1_init_0 : List UInt8 := dkwX1_init_0 ++ []
theorem dksX1_init_0 : cX1_init.data.toList.drop 0 = dktX1_init_0 := by decide +kernel
theorem dX1_init_0 : decode cX1_init 0 = .ok (.aload_n 0, 1) := dk_42 (dk_at dksX1_init_0 0 rfl rfl)
theorem dX1_init_1 : decode cX1_init 1 = .ok (.aconst_null, 1) := dk_1 (dk_at dksX1_init_0 1 rfl rfl)
theorem dX1_init_2 : decode cX1_init 2 = .ok (.aconst_null, 1) := dk_1 (dk_at dksX1_init_0 2 rfl rfl)
theorem dX1_init_3 : decode cX1_init 3 = .ok (.iconst 0, 1) := dk_3 (dk_at dksX1_init_0 3 rfl rfl)
theorem dX1_init_4 : decode cX1_init 4 = .ok (.iconst 0, 1) := dk_3 (dk_at dksX1_init_0 4 rfl rfl)
theorem dX1_init_5 : decode cX1_init 5 = .ok (.invokespecial 1, 3) := dk_183 0 1 (dk_at dksX1_init_0 5 rfl rfl)
theorem dX1_init_8 : decode cX1_init 8 = .ok (.return_, 1) := dk_177 (dk_at dksX1_init_0 8 rfl rfl)
abbrev cX1_of : ByteArray := prog_8_method_2_code
def yX1_of : MethodName := ⟨RX1, "of", "(I)LMeadowMilk$Finding;"⟩
def dkwX1_of_0 : List UInt8 := [42, 27, 181, 0, 7, 42, 176]
abbrev dktX1_of_0 : List UInt8 := dkwX1_of_0 ++ []
theorem dksX1_of_0 : cX1_of.data.toList.drop 0 = dktX1_of_0 := by decide +kernel
theorem dX1_of_0 : decode cX1_of 0 = .ok (.aload_n 0, 1) := dk_42 (dk_at dksX1_of_0 0 rfl rfl)
theorem dX1_of_1 : decode cX1_of 1 = .ok (.iload_n 1, 1) := dk_27 (dk_at dksX1_of_0 1 rfl rfl)
theorem dX1_of_2 : decode cX1_of 2 = .ok (.putfield 7, 3) := dk_181 0 7 (dk_at dksX1_of_0 2 rfl rfl)
theorem dX1_of_5 : decode cX1_of 5 = .ok (.aload_n 0, 1) := dk_42 (dk_at dksX1_of_0 5 rfl rfl)
theorem dX1_of_6 : decode cX1_of 6 = .ok (.areturn, 1) := dk_176 (dk_at dksX1_of_0 6 rfl rfl)
theorem q65 : (Jvm.Cond.initialized "MeadowMilk$Finding") ∈ lw_all := lw_g (lw_at lw_m1 5 rfl) rfl
theorem q106 : (Jvm.Cond.instantiable "MeadowMilk$Finding" (7 : Nat)) ∈ lw_all := lw_g (lw_at lw_m1 46 rfl) rfl
theorem q107 : (Jvm.Cond.castable "MeadowMilk$Finding" "MeadowMilk$Finding") ∈ lw_tbl := lw_at lw_m1 47 rfl
theorem q114 : (Jvm.Cond.selects "MeadowMilk$Finding" ({ cls := "java/lang/Throwable", name := "fillInStackTrace", desc := "(I)Ljava/lang/Throwable;" } : Jvm.MethodName) ({ cls := "java/lang/Throwable", name := "fillInStackTrace", desc := "(I)Ljava/lang/Throwable;" } : Jvm.MethodName)) ∈ lw_all := lw_g (lw_at lw_m1 54 rfl) rfl
theorem q115 : (Jvm.Cond.selects "MeadowMilk$Finding" ({ cls := "java/lang/Throwable", name := "fillInStackTrace", desc := "()Ljava/lang/Throwable;" } : Jvm.MethodName) ({ cls := "java/lang/Throwable", name := "fillInStackTrace", desc := "()Ljava/lang/Throwable;" } : Jvm.MethodName)) ∈ lw_all := lw_g (lw_at lw_m1 55 rfl) rfl
theorem q116 : (Jvm.Cond.lays "MeadowMilk$Finding" "java/lang/Throwable" "cause" "Ljava/lang/Throwable;") ∈ lw_all := lw_g (lw_at lw_m1 56 rfl) rfl
theorem q118 : (Jvm.Cond.lays "MeadowMilk$Finding" "java/lang/Throwable" "stackTrace" "[Ljava/lang/StackTraceElement;") ∈ lw_all := lw_g (lw_at lw_m1 58 rfl) rfl
theorem q120 : (Jvm.Cond.lays "MeadowMilk$Finding" "java/lang/Throwable" "suppressedExceptions" "Ljava/util/List;") ∈ lw_all := lw_g (lw_at lw_m1 60 rfl) rfl
theorem q122 : (Jvm.Cond.lays "MeadowMilk$Finding" "java/lang/Throwable" "detailMessage" "Ljava/lang/String;") ∈ lw_all := lw_g (lw_at lw_m1 62 rfl) rfl
theorem q124 : (Jvm.Cond.lays "MeadowMilk$Finding" "java/lang/Throwable" "backtrace" "Ljava/lang/Object;") ∈ lw_all := lw_g (lw_at lw_m1 64 rfl) rfl
theorem q146 : (Jvm.Cond.instanceMethod ({ cls := "MeadowMilk$Finding", name := "<init>", desc := "()V" } : Jvm.MethodName)) ∈ lw_all := lw_g (lw_at lw_m1 86 rfl) rfl
theorem q147 : (Jvm.Cond.code ({ cls := "MeadowMilk$Finding", name := "<init>", desc := "()V" } : Jvm.MethodName) prog_8_method_1_code (1 : Nat) (Option.none : Option Jvm.ClassFile.FieldType)) ∈ lw_all := lw_g (lw_at lw_m1 87 rfl) rfl
theorem q148 : (Jvm.Cond.methodLink "MeadowMilk$Finding" (1 : Nat) ({ cls := "java/lang/RuntimeException", name := "<init>", desc := "(Ljava/lang/String;Ljava/lang/Throwable;ZZ)V" } : Jvm.MethodName)) ∈ lw_all := lw_g (lw_at lw_m1 88 rfl) rfl
theorem q157 : (Jvm.Cond.fieldLink "MeadowMilk$Finding" (7 : Nat) "MeadowMilk$Finding" "code" "I") ∈ lw_all := lw_g (lw_at lw_m1 97 rfl) rfl
theorem q164 : (Jvm.Cond.lays "MeadowMilk$Finding" "MeadowMilk$Finding" "code" "I") ∈ lw_all := lw_g (lw_at lw_m1 104 rfl) rfl
theorem q165 : (Jvm.Cond.soleField "MeadowMilk$Finding" "code") ∈ lw_all := lw_g (lw_at lw_m1 105 rfl) rfl
theorem q170 : (Jvm.Cond.lays "MeadowMilk$Finding" "java/lang/Throwable" "depth" "I") ∈ lw_all := lw_g (lw_at lw_m1 110 rfl) rfl
theorem q173 : (Jvm.Cond.superclass "MeadowMilk$Finding" "java/lang/RuntimeException") ∈ lw_all := lw_g (lw_at lw_m1 113 rfl) rfl
theorem q338 : (Jvm.Cond.instanceMethod ({ cls := "MeadowMilk$Finding", name := "of", desc := "(I)LMeadowMilk$Finding;" } : Jvm.MethodName)) ∈ lw_all := lw_g (lw_at lw_m2 38 rfl) rfl
theorem q339 : (Jvm.Cond.selects "MeadowMilk$Finding" ({ cls := "MeadowMilk$Finding", name := "of", desc := "(I)LMeadowMilk$Finding;" } : Jvm.MethodName) ({ cls := "MeadowMilk$Finding", name := "of", desc := "(I)LMeadowMilk$Finding;" } : Jvm.MethodName)) ∈ lw_all := lw_g (lw_at lw_m2 39 rfl) rfl
theorem q340 : (Jvm.Cond.code ({ cls := "MeadowMilk$Finding", name := "of", desc := "(I)LMeadowMilk$Finding;" } : Jvm.MethodName) prog_8_method_2_code (2 : Nat) (Option.some (Jvm.ClassFile.FieldType.object "MeadowMilk$Finding"))) ∈ lw_all := lw_g (lw_at lw_m2 40 rfl) rfl
theorem in_X1 : ∀ w ∈ wsX10, w ∈ lw_all := lw_in wsX10 [116, 118, 120, 122, 124, 170, 164] (by decide +kernel) (by decide +kernel)
/-! MeadowMilk$Facts -/
set_option maxRecDepth 100000
def RX3 : String := "MeadowMilk$Facts"
def TX3 : u_T := fun k => match k with
  | _ => ("MeadowMilk$Facts", "named", "[I", true)
def tyX3 : Nat → FieldType := fun k => match k with
  | _ => .array .int
abbrev wsX30 : List Cond := u_ws RX3 TX3 1
theorem nmX3 : ∀ a, a < 1 → ∀ b, b < 1 → a ≠ b → (TX3 a).2.1 ≠ (TX3 b).2.1 := by decide +kernel
theorem tyX3_ok : ∀ k, k < 1 → parseFieldDescriptor (TX3 k).2.2.1 = some (tyX3 k) := by decide +kernel
abbrev cX3_init : ByteArray := prog_5_method_1_code
def yX3_init : MethodName := ⟨RX3, "<init>", "()V"⟩
def dkwX3_init_0 : List UInt8 := [42, 183, 0, 1, 42, 17, 0, 128, 188, 10, 181, 0, 7, 177]
abbrev dktX3_init_0 : List UInt8 := dkwX3_init_0 ++ []
theorem dksX3_init_0 : cX3_init.data.toList.drop 0 = dktX3_init_0 := by decide +kernel
theorem dX3_init_0 : decode cX3_init 0 = .ok (.aload_n 0, 1) := dk_42 (dk_at dksX3_init_0 0 rfl rfl)
theorem dX3_init_1 : decode cX3_init 1 = .ok (.invokespecial 1, 3) := dk_183 0 1 (dk_at dksX3_init_0 1 rfl rfl)
theorem dX3_init_4 : decode cX3_init 4 = .ok (.aload_n 0, 1) := dk_42 (dk_at dksX3_init_0 4 rfl rfl)
theorem dX3_init_5 : decode cX3_init 5 = .ok (.sipush 128, 3) := dk_17 0 128 (dk_at dksX3_init_0 5 rfl rfl)
theorem dX3_init_8 : decode cX3_init 8 = .ok (.newarray .int, 2) := dk_188_10 (dk_at dksX3_init_0 8 rfl rfl)
theorem dX3_init_10 : decode cX3_init 10 = .ok (.putfield 7, 3) := dk_181 0 7 (dk_at dksX3_init_0 10 rfl rfl)
theorem dX3_init_13 : decode cX3_init 13 = .ok (.return_, 1) := dk_177 (dk_at dksX3_init_0 13 rfl rfl)
abbrev cX3_with : ByteArray := prog_5_method_2_code
def yX3_with : MethodName := ⟨RX3, "with", "(CI)LMeadowMilk$Facts;"⟩
def dkwX3_with_0 : List UInt8 := [42, 180, 0, 7, 27, 28, 79, 42, 176]
abbrev dktX3_with_0 : List UInt8 := dkwX3_with_0 ++ []
theorem dksX3_with_0 : cX3_with.data.toList.drop 0 = dktX3_with_0 := by decide +kernel
theorem dX3_with_0 : decode cX3_with 0 = .ok (.aload_n 0, 1) := dk_42 (dk_at dksX3_with_0 0 rfl rfl)
theorem dX3_with_1 : decode cX3_with 1 = .ok (.getfield 7, 3) := dk_180 0 7 (dk_at dksX3_with_0 1 rfl rfl)
theorem dX3_with_4 : decode cX3_with 4 = .ok (.iload_n 1, 1) := dk_27 (dk_at dksX3_with_0 4 rfl rfl)
theorem dX3_with_5 : decode cX3_with 5 = .ok (.iload_n 2, 1) := dk_28 (dk_at dksX3_with_0 5 rfl rfl)
theorem dX3_with_6 : decode cX3_with 6 = .ok (.iastore, 1) := dk_79 (dk_at dksX3_with_0 6 rfl rfl)
theorem dX3_with_7 : decode cX3_with 7 = .ok (.aload_n 0, 1) := dk_42 (dk_at dksX3_with_0 7 rfl rfl)
theorem dX3_with_8 : decode cX3_with 8 = .ok (.areturn, 1) := dk_176 (dk_at dksX3_with_0 8 rfl rfl)
theorem q67 : (Jvm.Cond.initialized "MeadowMilk$Facts") ∈ lw_all := lw_g (lw_at lw_m1 7 rfl) rfl
theorem q185 : (Jvm.Cond.instantiable "MeadowMilk$Facts" (1 : Nat)) ∈ lw_all := lw_g (lw_at lw_m1 125 rfl) rfl
theorem q187 : (Jvm.Cond.instanceMethod ({ cls := "MeadowMilk$Facts", name := "<init>", desc := "()V" } : Jvm.MethodName)) ∈ lw_all := lw_g (lw_at lw_m1 127 rfl) rfl
theorem q188 : (Jvm.Cond.code ({ cls := "MeadowMilk$Facts", name := "<init>", desc := "()V" } : Jvm.MethodName) prog_5_method_1_code (1 : Nat) (Option.none : Option Jvm.ClassFile.FieldType)) ∈ lw_all := lw_g (lw_at lw_m1 128 rfl) rfl
theorem q189 : (Jvm.Cond.methodLink "MeadowMilk$Facts" (1 : Nat) ({ cls := "java/lang/Object", name := "<init>", desc := "()V" } : Jvm.MethodName)) ∈ lw_all := lw_g (lw_at lw_m1 129 rfl) rfl
theorem q190 : (Jvm.Cond.fieldLink "MeadowMilk$Facts" (7 : Nat) "MeadowMilk$Facts" "named" "[I") ∈ lw_all := lw_g (lw_at lw_m1 130 rfl) rfl
theorem q192 : (Jvm.Cond.laysFinal "MeadowMilk$Facts" "MeadowMilk$Facts" "named" "[I") ∈ lw_all := lw_g (lw_at lw_m1 132 rfl) rfl
theorem q193 : (Jvm.Cond.soleField "MeadowMilk$Facts" "named") ∈ lw_all := lw_g (lw_at lw_m1 133 rfl) rfl
theorem q194 : (Jvm.Cond.superclass "MeadowMilk$Facts" "java/lang/Object") ∈ lw_all := lw_g (lw_at lw_m1 134 rfl) rfl
theorem q359 : (Jvm.Cond.instanceMethod ({ cls := "MeadowMilk$Facts", name := "with", desc := "(CI)LMeadowMilk$Facts;" } : Jvm.MethodName)) ∈ lw_all := lw_g (lw_at lw_m2 59 rfl) rfl
theorem q360 : (Jvm.Cond.selects "MeadowMilk$Facts" ({ cls := "MeadowMilk$Facts", name := "with", desc := "(CI)LMeadowMilk$Facts;" } : Jvm.MethodName) ({ cls := "MeadowMilk$Facts", name := "with", desc := "(CI)LMeadowMilk$Facts;" } : Jvm.MethodName)) ∈ lw_all := lw_g (lw_at lw_m2 60 rfl) rfl
theorem q361 : (Jvm.Cond.code ({ cls := "MeadowMilk$Facts", name := "with", desc := "(CI)LMeadowMilk$Facts;" } : Jvm.MethodName) prog_5_method_2_code (3 : Nat) (Option.some (Jvm.ClassFile.FieldType.object "MeadowMilk$Facts"))) ∈ lw_all := lw_g (lw_at lw_m2 61 rfl) rfl
theorem in_X3 : ∀ w ∈ wsX30, w ∈ lw_all := lw_in wsX30 [192] (by decide +kernel) (by decide +kernel)
/-! MeadowMilk$Trace -/
set_option maxRecDepth 100000
def RX4 : String := "MeadowMilk$Trace"
def TX4 : u_T := fun k => match k with
  | 0 => ("MeadowMilk$Trace", "ran", "[I", true)
  | _ => ("MeadowMilk$Trace", "many", "I", false)
def tyX4 : Nat → FieldType := fun k => match k with
  | 0 => .array .int
  | _ => .int
abbrev wsX40 : List Cond := u_ws RX4 TX4 2
theorem nmX4 : ∀ a, a < 2 → ∀ b, b < 2 → a ≠ b → (TX4 a).2.1 ≠ (TX4 b).2.1 := by decide +kernel
theorem tyX4_ok : ∀ k, k < 2 → parseFieldDescriptor (TX4 k).2.2.1 = some (tyX4 k) := by decide +kernel
abbrev cX4_init : ByteArray := prog_24_method_1_code
def yX4_init : MethodName := ⟨RX4, "<init>", "()V"⟩
def dkwX4_init_0 : List UInt8 := [42, 183, 0, 3, 42, 16, 40, 188, 10, 181, 0, 9, 177]
abbrev dktX4_init_0 : List UInt8 := dkwX4_init_0 ++ []
theorem dksX4_init_0 : cX4_init.data.toList.drop 0 = dktX4_init_0 := by decide +kernel
theorem dX4_init_0 : decode cX4_init 0 = .ok (.aload_n 0, 1) := dk_42 (dk_at dksX4_init_0 0 rfl rfl)
theorem dX4_init_1 : decode cX4_init 1 = .ok (.invokespecial 3, 3) := dk_183 0 3 (dk_at dksX4_init_0 1 rfl rfl)
theorem dX4_init_4 : decode cX4_init 4 = .ok (.aload_n 0, 1) := dk_42 (dk_at dksX4_init_0 4 rfl rfl)
theorem dX4_init_5 : decode cX4_init 5 = .ok (.bipush 40, 2) := dk_16 40 (dk_at dksX4_init_0 5 rfl rfl)
theorem dX4_init_7 : decode cX4_init 7 = .ok (.newarray .int, 2) := dk_188_10 (dk_at dksX4_init_0 7 rfl rfl)
theorem dX4_init_9 : decode cX4_init 9 = .ok (.putfield 9, 3) := dk_181 0 9 (dk_at dksX4_init_0 9 rfl rfl)
theorem dX4_init_12 : decode cX4_init 12 = .ok (.return_, 1) := dk_177 (dk_at dksX4_init_0 12 rfl rfl)
abbrev cX4_begins : ByteArray := prog_24_method_2_code
def yX4_begins : MethodName := ⟨RX4, "begins", "(I)V"⟩
def dkwX4_begins_1 : List UInt8 := [4, 96, 181, 0, 15, 177]
abbrev dktX4_begins_1 : List UInt8 := dkwX4_begins_1 ++ []
def dkwX4_begins_0 : List UInt8 := [42, 180, 0, 15, 16, 40, 162, 0, 23, 42, 180, 0, 9, 42, 180, 0, 15, 27, 79, 42, 89, 180, 0, 15]
abbrev dktX4_begins_0 : List UInt8 := dkwX4_begins_0 ++ dktX4_begins_1
theorem dksX4_begins_0 : cX4_begins.data.toList.drop 0 = dktX4_begins_0 := by decide +kernel
theorem dksX4_begins_1 : cX4_begins.data.toList.drop 24 = dktX4_begins_1 := dk_seg dksX4_begins_0 24 rfl rfl
theorem dX4_begins_0 : decode cX4_begins 0 = .ok (.aload_n 0, 1) := dk_42 (dk_at dksX4_begins_0 0 rfl rfl)
theorem dX4_begins_1 : decode cX4_begins 1 = .ok (.getfield 15, 3) := dk_180 0 15 (dk_at dksX4_begins_0 1 rfl rfl)
theorem dX4_begins_4 : decode cX4_begins 4 = .ok (.bipush 40, 2) := dk_16 40 (dk_at dksX4_begins_0 4 rfl rfl)
theorem dX4_begins_6 : decode cX4_begins 6 = .ok (.if_icmp .ge 23, 3) := dk_162 0 23 (dk_at dksX4_begins_0 6 rfl rfl)
theorem dX4_begins_9 : decode cX4_begins 9 = .ok (.aload_n 0, 1) := dk_42 (dk_at dksX4_begins_0 9 rfl rfl)
theorem dX4_begins_10 : decode cX4_begins 10 = .ok (.getfield 9, 3) := dk_180 0 9 (dk_at dksX4_begins_0 10 rfl rfl)
theorem dX4_begins_13 : decode cX4_begins 13 = .ok (.aload_n 0, 1) := dk_42 (dk_at dksX4_begins_0 13 rfl rfl)
theorem dX4_begins_14 : decode cX4_begins 14 = .ok (.getfield 15, 3) := dk_180 0 15 (dk_at dksX4_begins_0 14 rfl rfl)
theorem dX4_begins_17 : decode cX4_begins 17 = .ok (.iload_n 1, 1) := dk_27 (dk_at dksX4_begins_0 17 rfl rfl)
theorem dX4_begins_18 : decode cX4_begins 18 = .ok (.iastore, 1) := dk_79 (dk_at dksX4_begins_0 18 rfl rfl)
theorem dX4_begins_19 : decode cX4_begins 19 = .ok (.aload_n 0, 1) := dk_42 (dk_at dksX4_begins_0 19 rfl rfl)
theorem dX4_begins_20 : decode cX4_begins 20 = .ok (.dup, 1) := dk_89 (dk_at dksX4_begins_0 20 rfl rfl)
theorem dX4_begins_21 : decode cX4_begins 21 = .ok (.getfield 15, 3) := dk_180 0 15 (dk_at dksX4_begins_0 21 rfl rfl)
theorem dX4_begins_24 : decode cX4_begins 24 = .ok (.iconst 1, 1) := dk_4 (dk_at dksX4_begins_1 0 rfl rfl)
theorem dX4_begins_25 : decode cX4_begins 25 = .ok (.iadd, 1) := dk_96 (dk_at dksX4_begins_1 1 rfl rfl)
theorem dX4_begins_26 : decode cX4_begins 26 = .ok (.putfield 15, 3) := dk_181 0 15 (dk_at dksX4_begins_1 2 rfl rfl)
theorem dX4_begins_29 : decode cX4_begins 29 = .ok (.return_, 1) := dk_177 (dk_at dksX4_begins_1 5 rfl rfl)
theorem q68 : (Jvm.Cond.initialized "MeadowMilk$Trace") ∈ lw_all := lw_g (lw_at lw_m1 8 rfl) rfl
theorem q261 : (Jvm.Cond.instantiable "MeadowMilk$Trace" (2 : Nat)) ∈ lw_all := lw_g (lw_at lw_m1 201 rfl) rfl
theorem q263 : (Jvm.Cond.instanceMethod ({ cls := "MeadowMilk$Trace", name := "<init>", desc := "()V" } : Jvm.MethodName)) ∈ lw_all := lw_g (lw_at lw_m1 203 rfl) rfl
theorem q264 : (Jvm.Cond.code ({ cls := "MeadowMilk$Trace", name := "<init>", desc := "()V" } : Jvm.MethodName) prog_24_method_1_code (1 : Nat) (Option.none : Option Jvm.ClassFile.FieldType)) ∈ lw_all := lw_g (lw_at lw_m1 204 rfl) rfl
theorem q265 : (Jvm.Cond.methodLink "MeadowMilk$Trace" (3 : Nat) ({ cls := "java/lang/Object", name := "<init>", desc := "()V" } : Jvm.MethodName)) ∈ lw_all := lw_g (lw_at lw_m1 205 rfl) rfl
theorem q266 : (Jvm.Cond.fieldLink "MeadowMilk$Trace" (9 : Nat) "MeadowMilk$Trace" "ran" "[I") ∈ lw_all := lw_g (lw_at lw_m1 206 rfl) rfl
theorem q268 : (Jvm.Cond.fieldLink "MeadowMilk$Trace" (15 : Nat) "MeadowMilk$Trace" "many" "I") ∈ lw_all := lw_g (lw_at lw_m1 208 rfl) rfl
theorem q270 : (Jvm.Cond.laysFinal "MeadowMilk$Trace" "MeadowMilk$Trace" "ran" "[I") ∈ lw_all := lw_g (lw_at lw_m1 210 rfl) rfl
theorem q271 : (Jvm.Cond.soleField "MeadowMilk$Trace" "ran") ∈ lw_all := lw_g (lw_at lw_m1 211 rfl) rfl
theorem q272 : (Jvm.Cond.lays "MeadowMilk$Trace" "MeadowMilk$Trace" "many" "I") ∈ lw_all := lw_g (lw_at lw_m1 212 rfl) rfl
theorem q273 : (Jvm.Cond.soleField "MeadowMilk$Trace" "many") ∈ lw_all := lw_g (lw_at lw_m1 213 rfl) rfl
theorem q274 : (Jvm.Cond.superclass "MeadowMilk$Trace" "java/lang/Object") ∈ lw_all := lw_g (lw_at lw_m1 214 rfl) rfl
theorem q1105 : (Jvm.Cond.instanceMethod ({ cls := "MeadowMilk$Trace", name := "begins", desc := "(I)V" } : Jvm.MethodName)) ∈ lw_all := lw_g (lw_at lw_m5 85 rfl) rfl
theorem q1106 : (Jvm.Cond.selects "MeadowMilk$Trace" ({ cls := "MeadowMilk$Trace", name := "begins", desc := "(I)V" } : Jvm.MethodName) ({ cls := "MeadowMilk$Trace", name := "begins", desc := "(I)V" } : Jvm.MethodName)) ∈ lw_all := lw_g (lw_at lw_m5 86 rfl) rfl
theorem q1107 : (Jvm.Cond.code ({ cls := "MeadowMilk$Trace", name := "begins", desc := "(I)V" } : Jvm.MethodName) prog_24_method_2_code (2 : Nat) (Option.none : Option Jvm.ClassFile.FieldType)) ∈ lw_all := lw_g (lw_at lw_m5 87 rfl) rfl
theorem in_X4 : ∀ w ∈ wsX40, w ∈ lw_all := lw_in wsX40 [270, 272] (by decide +kernel) (by decide +kernel)
/-! MeadowMilk$Shelf -/
set_option maxRecDepth 100000
def RX5 : String := "MeadowMilk$Shelf"
def TX5 : u_T := fun k => match k with
  | _ => ("MeadowMilk$Shelf", "held", "Ljava/lang/Object;", false)
def tyX5 : Nat → FieldType := fun k => match k with
  | _ => .object "java/lang/Object"
abbrev wsX50 : List Cond := u_ws RX5 TX5 1
theorem nmX5 : ∀ a, a < 1 → ∀ b, b < 1 → a ≠ b → (TX5 a).2.1 ≠ (TX5 b).2.1 := by decide +kernel
theorem tyX5_ok : ∀ k, k < 1 → parseFieldDescriptor (TX5 k).2.2.1 = some (tyX5 k) := by decide +kernel
abbrev cX5_init : ByteArray := prog_20_method_1_code
def yX5_init : MethodName := ⟨RX5, "<init>", "()V"⟩
theorem dX5_init_0 : decode cX5_init 0 = .ok (.aload_n 0, 1) := by decide +kernel
theorem dX5_init_1 : decode cX5_init 1 = .ok (.invokespecial 1, 3) := by decide +kernel
theorem dX5_init_4 : decode cX5_init 4 = .ok (.return_, 1) := by decide +kernel
theorem q69 : (Jvm.Cond.initialized "MeadowMilk$Shelf") ∈ lw_all := lw_g (lw_at lw_m1 9 rfl) rfl
theorem q277 : (Jvm.Cond.instantiable "MeadowMilk$Shelf" (1 : Nat)) ∈ lw_all := lw_g (lw_at lw_m1 217 rfl) rfl
theorem q279 : (Jvm.Cond.instanceMethod ({ cls := "MeadowMilk$Shelf", name := "<init>", desc := "()V" } : Jvm.MethodName)) ∈ lw_all := lw_g (lw_at lw_m1 219 rfl) rfl
theorem q280 : (Jvm.Cond.code ({ cls := "MeadowMilk$Shelf", name := "<init>", desc := "()V" } : Jvm.MethodName) prog_20_method_1_code (1 : Nat) (Option.none : Option Jvm.ClassFile.FieldType)) ∈ lw_all := lw_g (lw_at lw_m1 220 rfl) rfl
theorem q281 : (Jvm.Cond.methodLink "MeadowMilk$Shelf" (1 : Nat) ({ cls := "java/lang/Object", name := "<init>", desc := "()V" } : Jvm.MethodName)) ∈ lw_all := lw_g (lw_at lw_m1 221 rfl) rfl
theorem q283 : (Jvm.Cond.lays "MeadowMilk$Shelf" "MeadowMilk$Shelf" "held" "Ljava/lang/Object;") ∈ lw_all := lw_g (lw_at lw_m1 223 rfl) rfl
theorem q284 : (Jvm.Cond.soleField "MeadowMilk$Shelf" "held") ∈ lw_all := lw_g (lw_at lw_m1 224 rfl) rfl
theorem q285 : (Jvm.Cond.superclass "MeadowMilk$Shelf" "java/lang/Object") ∈ lw_all := lw_g (lw_at lw_m1 225 rfl) rfl
theorem in_X5 : ∀ w ∈ wsX50, w ∈ lw_all := lw_in wsX50 [283] (by decide +kernel) (by decide +kernel)
/-! MeadowMilk$Term -/
set_option maxRecDepth 100000
def RX7 : String := "MeadowMilk$Term"
abbrev cX7_init : ByteArray := prog_23_method_1_code
def yX7_init : MethodName := ⟨RX7, "<init>", "()V"⟩
theorem dX7_init_0 : decode cX7_init 0 = .ok (.aload_n 0, 1) := by decide +kernel
theorem dX7_init_1 : decode cX7_init 1 = .ok (.invokespecial 1, 3) := by decide +kernel
theorem dX7_init_4 : decode cX7_init 4 = .ok (.return_, 1) := by decide +kernel
theorem q71 : (Jvm.Cond.initialized "MeadowMilk$Term") ∈ lw_all := lw_g (lw_at lw_m1 11 rfl) rfl
theorem q363 : (Jvm.Cond.declares ({ cls := "MeadowMilk$Term", name := "value", desc := "(LMeadowMilk$Facts;)I" } : Jvm.MethodName)) ∈ lw_tbl := lw_at lw_m2 63 rfl
theorem q364 : (Jvm.Cond.sameMethod "MeadowMilk$Term" "MeadowMilk$Term" "value" "(LMeadowMilk$Facts;)I") ∈ lw_all := lw_g (lw_at lw_m2 64 rfl) rfl
theorem q829 : (Jvm.Cond.instanceMethod ({ cls := "MeadowMilk$Term", name := "<init>", desc := "()V" } : Jvm.MethodName)) ∈ lw_all := lw_g (lw_at lw_m4 49 rfl) rfl
theorem q830 : (Jvm.Cond.code ({ cls := "MeadowMilk$Term", name := "<init>", desc := "()V" } : Jvm.MethodName) prog_23_method_1_code (1 : Nat) (Option.none : Option Jvm.ClassFile.FieldType)) ∈ lw_all := lw_g (lw_at lw_m4 50 rfl) rfl
theorem q831 : (Jvm.Cond.methodLink "MeadowMilk$Term" (1 : Nat) ({ cls := "java/lang/Object", name := "<init>", desc := "()V" } : Jvm.MethodName)) ∈ lw_all := lw_g (lw_at lw_m4 51 rfl) rfl
/-! MeadowMilk$Two -/
set_option maxRecDepth 100000
def RX8 : String := "MeadowMilk$Two"
def TX8 : u_T := fun k => match k with
  | 0 => ("MeadowMilk$Two", "sign", "I", true)
  | 1 => ("MeadowMilk$Two", "a", "LMeadowMilk$Term;", true)
  | _ => ("MeadowMilk$Two", "b", "LMeadowMilk$Term;", true)
def tyX8 : Nat → FieldType := fun k => match k with
  | 0 => .int
  | 1 => .object "MeadowMilk$Term"
  | _ => .object "MeadowMilk$Term"
abbrev wsX80 : List Cond := u_ws RX8 TX8 3
theorem nmX8 : ∀ a, a < 3 → ∀ b, b < 3 → a ≠ b → (TX8 a).2.1 ≠ (TX8 b).2.1 := by decide +kernel
theorem tyX8_ok : ∀ k, k < 3 → parseFieldDescriptor (TX8 k).2.2.1 = some (tyX8 k) := by decide +kernel
abbrev cX8_value : ByteArray := prog_26_method_3_code
def yX8_value : MethodName := ⟨RX8, "value", "(LMeadowMilk$Facts;)I"⟩
def dkwX8_value_6 : List UInt8 := [172, 28, 154, 0, 7, 29, 153, 0, 7, 4, 167, 0, 4, 3, 184, 0, 24, 172]
abbrev dktX8_value_6 : List UInt8 := dkwX8_value_6 ++ []
def dkwX8_value_5 : List UInt8 := [167, 0, 4, 3, 184, 0, 24, 172, 28, 153, 0, 11, 29, 153, 0, 7, 4, 167, 0, 4, 3, 184, 0, 24]
abbrev dktX8_value_5 : List UInt8 := dkwX8_value_5 ++ dktX8_value_6
def dkwX8_value_4 : List UInt8 := [184, 0, 24, 172, 28, 29, 160, 0, 7, 4, 167, 0, 4, 3, 184, 0, 24, 172, 28, 29, 164, 0, 7, 4]
abbrev dktX8_value_4 : List UInt8 := dkwX8_value_4 ++ dktX8_value_5
def dkwX8_value_3 : List UInt8 := [29, 154, 0, 7, 3, 167, 0, 6, 28, 29, 112, 172, 28, 29, 162, 0, 7, 4, 167, 0, 4, 3]
abbrev dktX8_value_3 : List UInt8 := dkwX8_value_3 ++ dktX8_value_4
def dkwX8_value_2 : List UInt8 := [28, 29, 96, 172, 28, 29, 100, 172, 28, 29, 104, 172, 29, 154, 0, 7, 3, 167, 0, 6, 28, 29, 108, 172]
abbrev dktX8_value_2 : List UInt8 := dkwX8_value_2 ++ dktX8_value_3
def dkwX8_value_1 : List UInt8 := [170, 0, 0, 0, 0, 213, 0, 0, 0, 37, 0, 0, 0, 62, 0, 0, 0, 142, 0, 0, 0, 196, 0, 0, 0, 213, 0, 0, 0, 213, 0, 0, 0, 213, 0, 0, 0, 126, 0, 0, 0, 118, 0, 0, 0, 213, 0, 0, 0, 122, 0, 0, 0, 213, 0, 0, 0, 130, 0, 0, 0, 213, 0, 0, 0, 213, 0, 0, 0, 213, 0, 0, 0, 213, 0, 0, 0, 213, 0, 0, 0, 213, 0, 0, 0, 213, 0, 0, 0, 213, 0, 0, 0, 213, 0, 0, 0, 213, 0, 0, 0, 213, 0, 0, 0, 213, 0, 0, 0, 154, 0, 0, 0, 168, 0, 0, 0, 182]
abbrev dktX8_value_1 : List UInt8 := dkwX8_value_1 ++ dktX8_value_2
def dkwX8_value_0 : List UInt8 := [42, 180, 0, 13, 43, 182, 0, 20, 61, 42, 180, 0, 17, 43, 182, 0, 20, 62, 42, 180, 0, 7]
abbrev dktX8_value_0 : List UInt8 := dkwX8_value_0 ++ dktX8_value_1
theorem dksX8_value_0 : cX8_value.data.toList.drop 0 = dktX8_value_0 := by decide +kernel
theorem dksX8_value_1 : cX8_value.data.toList.drop 22 = dktX8_value_1 := dk_seg dksX8_value_0 22 rfl rfl
theorem dksX8_value_2 : cX8_value.data.toList.drop 140 = dktX8_value_2 := dk_seg dksX8_value_1 118 rfl rfl
theorem dksX8_value_3 : cX8_value.data.toList.drop 164 = dktX8_value_3 := dk_seg dksX8_value_2 24 rfl rfl
theorem dksX8_value_4 : cX8_value.data.toList.drop 186 = dktX8_value_4 := dk_seg dksX8_value_3 22 rfl rfl
theorem dksX8_value_5 : cX8_value.data.toList.drop 210 = dktX8_value_5 := dk_seg dksX8_value_4 24 rfl rfl
theorem dksX8_value_6 : cX8_value.data.toList.drop 234 = dktX8_value_6 := dk_seg dksX8_value_5 24 rfl rfl
theorem dX8_value_0 : decode cX8_value 0 = .ok (.aload_n 0, 1) := dk_42 (dk_at dksX8_value_0 0 rfl rfl)
theorem dX8_value_1 : decode cX8_value 1 = .ok (.getfield 13, 3) := dk_180 0 13 (dk_at dksX8_value_0 1 rfl rfl)
theorem dX8_value_4 : decode cX8_value 4 = .ok (.aload_n 1, 1) := dk_43 (dk_at dksX8_value_0 4 rfl rfl)
theorem dX8_value_5 : decode cX8_value 5 = .ok (.invokevirtual 20, 3) := dk_182 0 20 (dk_at dksX8_value_0 5 rfl rfl)
theorem dX8_value_8 : decode cX8_value 8 = .ok (.istore_n 2, 1) := dk_61 (dk_at dksX8_value_0 8 rfl rfl)
theorem dX8_value_9 : decode cX8_value 9 = .ok (.aload_n 0, 1) := dk_42 (dk_at dksX8_value_0 9 rfl rfl)
theorem dX8_value_10 : decode cX8_value 10 = .ok (.getfield 17, 3) := dk_180 0 17 (dk_at dksX8_value_0 10 rfl rfl)
theorem dX8_value_13 : decode cX8_value 13 = .ok (.aload_n 1, 1) := dk_43 (dk_at dksX8_value_0 13 rfl rfl)
theorem dX8_value_14 : decode cX8_value 14 = .ok (.invokevirtual 20, 3) := dk_182 0 20 (dk_at dksX8_value_0 14 rfl rfl)
theorem dX8_value_17 : decode cX8_value 17 = .ok (.istore_n 3, 1) := dk_62 (dk_at dksX8_value_0 17 rfl rfl)
theorem dX8_value_18 : decode cX8_value 18 = .ok (.aload_n 0, 1) := dk_42 (dk_at dksX8_value_0 18 rfl rfl)
theorem dX8_value_19 : decode cX8_value 19 = .ok (.getfield 7, 3) := dk_180 0 7 (dk_at dksX8_value_0 19 rfl rfl)
theorem dX8_value_22 : decode cX8_value 22 = .ok (.tableswitch 213 37 62 #[142, 196, 213, 213, 213, 126, 118, 213, 122, 213, 130, 213, 213, 213, 213, 213, 213, 213, 213, 213, 213, 213, 213, 154, 168, 182], 118) := by decide +kernel
theorem dX8_value_140 : decode cX8_value 140 = .ok (.iload_n 2, 1) := dk_28 (dk_at dksX8_value_2 0 rfl rfl)
theorem dX8_value_141 : decode cX8_value 141 = .ok (.iload_n 3, 1) := dk_29 (dk_at dksX8_value_2 1 rfl rfl)
theorem dX8_value_142 : decode cX8_value 142 = .ok (.iadd, 1) := dk_96 (dk_at dksX8_value_2 2 rfl rfl)
theorem dX8_value_143 : decode cX8_value 143 = .ok (.ireturn, 1) := dk_172 (dk_at dksX8_value_2 3 rfl rfl)
theorem dX8_value_144 : decode cX8_value 144 = .ok (.iload_n 2, 1) := dk_28 (dk_at dksX8_value_2 4 rfl rfl)
theorem dX8_value_145 : decode cX8_value 145 = .ok (.iload_n 3, 1) := dk_29 (dk_at dksX8_value_2 5 rfl rfl)
theorem dX8_value_146 : decode cX8_value 146 = .ok (.isub, 1) := dk_100 (dk_at dksX8_value_2 6 rfl rfl)
theorem dX8_value_147 : decode cX8_value 147 = .ok (.ireturn, 1) := dk_172 (dk_at dksX8_value_2 7 rfl rfl)
theorem dX8_value_148 : decode cX8_value 148 = .ok (.iload_n 2, 1) := dk_28 (dk_at dksX8_value_2 8 rfl rfl)
theorem dX8_value_149 : decode cX8_value 149 = .ok (.iload_n 3, 1) := dk_29 (dk_at dksX8_value_2 9 rfl rfl)
theorem dX8_value_150 : decode cX8_value 150 = .ok (.imul, 1) := dk_104 (dk_at dksX8_value_2 10 rfl rfl)
theorem dX8_value_151 : decode cX8_value 151 = .ok (.ireturn, 1) := dk_172 (dk_at dksX8_value_2 11 rfl rfl)
theorem dX8_value_152 : decode cX8_value 152 = .ok (.iload_n 3, 1) := dk_29 (dk_at dksX8_value_2 12 rfl rfl)
theorem dX8_value_153 : decode cX8_value 153 = .ok (.ifCond .ne 7, 3) := dk_154 0 7 (dk_at dksX8_value_2 13 rfl rfl)
theorem dX8_value_156 : decode cX8_value 156 = .ok (.iconst 0, 1) := dk_3 (dk_at dksX8_value_2 16 rfl rfl)
theorem dX8_value_157 : decode cX8_value 157 = .ok (.goto 6, 3) := dk_167 0 6 (dk_at dksX8_value_2 17 rfl rfl)
theorem dX8_value_160 : decode cX8_value 160 = .ok (.iload_n 2, 1) := dk_28 (dk_at dksX8_value_2 20 rfl rfl)
theorem dX8_value_161 : decode cX8_value 161 = .ok (.iload_n 3, 1) := dk_29 (dk_at dksX8_value_2 21 rfl rfl)
theorem dX8_value_162 : decode cX8_value 162 = .ok (.idiv, 1) := dk_108 (dk_at dksX8_value_2 22 rfl rfl)
theorem dX8_value_163 : decode cX8_value 163 = .ok (.ireturn, 1) := dk_172 (dk_at dksX8_value_2 23 rfl rfl)
theorem dX8_value_164 : decode cX8_value 164 = .ok (.iload_n 3, 1) := dk_29 (dk_at dksX8_value_3 0 rfl rfl)
theorem dX8_value_165 : decode cX8_value 165 = .ok (.ifCond .ne 7, 3) := dk_154 0 7 (dk_at dksX8_value_3 1 rfl rfl)
theorem dX8_value_168 : decode cX8_value 168 = .ok (.iconst 0, 1) := dk_3 (dk_at dksX8_value_3 4 rfl rfl)
theorem dX8_value_169 : decode cX8_value 169 = .ok (.goto 6, 3) := dk_167 0 6 (dk_at dksX8_value_3 5 rfl rfl)
theorem dX8_value_172 : decode cX8_value 172 = .ok (.iload_n 2, 1) := dk_28 (dk_at dksX8_value_3 8 rfl rfl)
theorem dX8_value_173 : decode cX8_value 173 = .ok (.iload_n 3, 1) := dk_29 (dk_at dksX8_value_3 9 rfl rfl)
theorem dX8_value_174 : decode cX8_value 174 = .ok (.irem, 1) := dk_112 (dk_at dksX8_value_3 10 rfl rfl)
theorem dX8_value_175 : decode cX8_value 175 = .ok (.ireturn, 1) := dk_172 (dk_at dksX8_value_3 11 rfl rfl)
theorem dX8_value_176 : decode cX8_value 176 = .ok (.iload_n 2, 1) := dk_28 (dk_at dksX8_value_3 12 rfl rfl)
theorem dX8_value_177 : decode cX8_value 177 = .ok (.iload_n 3, 1) := dk_29 (dk_at dksX8_value_3 13 rfl rfl)
theorem dX8_value_178 : decode cX8_value 178 = .ok (.if_icmp .ge 7, 3) := dk_162 0 7 (dk_at dksX8_value_3 14 rfl rfl)
theorem dX8_value_181 : decode cX8_value 181 = .ok (.iconst 1, 1) := dk_4 (dk_at dksX8_value_3 17 rfl rfl)
theorem dX8_value_182 : decode cX8_value 182 = .ok (.goto 4, 3) := dk_167 0 4 (dk_at dksX8_value_3 18 rfl rfl)
theorem dX8_value_185 : decode cX8_value 185 = .ok (.iconst 0, 1) := dk_3 (dk_at dksX8_value_3 21 rfl rfl)
theorem dX8_value_186 : decode cX8_value 186 = .ok (.invokestatic 24, 3) := dk_184 0 24 (dk_at dksX8_value_4 0 rfl rfl)
theorem dX8_value_189 : decode cX8_value 189 = .ok (.ireturn, 1) := dk_172 (dk_at dksX8_value_4 3 rfl rfl)
theorem dX8_value_190 : decode cX8_value 190 = .ok (.iload_n 2, 1) := dk_28 (dk_at dksX8_value_4 4 rfl rfl)
theorem dX8_value_191 : decode cX8_value 191 = .ok (.iload_n 3, 1) := dk_29 (dk_at dksX8_value_4 5 rfl rfl)
theorem dX8_value_192 : decode cX8_value 192 = .ok (.if_icmp .ne 7, 3) := dk_160 0 7 (dk_at dksX8_value_4 6 rfl rfl)
theorem dX8_value_195 : decode cX8_value 195 = .ok (.iconst 1, 1) := dk_4 (dk_at dksX8_value_4 9 rfl rfl)
theorem dX8_value_196 : decode cX8_value 196 = .ok (.goto 4, 3) := dk_167 0 4 (dk_at dksX8_value_4 10 rfl rfl)
theorem dX8_value_199 : decode cX8_value 199 = .ok (.iconst 0, 1) := dk_3 (dk_at dksX8_value_4 13 rfl rfl)
theorem dX8_value_200 : decode cX8_value 200 = .ok (.invokestatic 24, 3) := dk_184 0 24 (dk_at dksX8_value_4 14 rfl rfl)
theorem dX8_value_203 : decode cX8_value 203 = .ok (.ireturn, 1) := dk_172 (dk_at dksX8_value_4 17 rfl rfl)
theorem dX8_value_204 : decode cX8_value 204 = .ok (.iload_n 2, 1) := dk_28 (dk_at dksX8_value_4 18 rfl rfl)
theorem dX8_value_205 : decode cX8_value 205 = .ok (.iload_n 3, 1) := dk_29 (dk_at dksX8_value_4 19 rfl rfl)
theorem dX8_value_206 : decode cX8_value 206 = .ok (.if_icmp .le 7, 3) := dk_164 0 7 (dk_at dksX8_value_4 20 rfl rfl)
theorem dX8_value_209 : decode cX8_value 209 = .ok (.iconst 1, 1) := dk_4 (dk_at dksX8_value_4 23 rfl rfl)
theorem dX8_value_210 : decode cX8_value 210 = .ok (.goto 4, 3) := dk_167 0 4 (dk_at dksX8_value_5 0 rfl rfl)
theorem dX8_value_213 : decode cX8_value 213 = .ok (.iconst 0, 1) := dk_3 (dk_at dksX8_value_5 3 rfl rfl)
theorem dX8_value_214 : decode cX8_value 214 = .ok (.invokestatic 24, 3) := dk_184 0 24 (dk_at dksX8_value_5 4 rfl rfl)
theorem dX8_value_217 : decode cX8_value 217 = .ok (.ireturn, 1) := dk_172 (dk_at dksX8_value_5 7 rfl rfl)
theorem dX8_value_218 : decode cX8_value 218 = .ok (.iload_n 2, 1) := dk_28 (dk_at dksX8_value_5 8 rfl rfl)
theorem dX8_value_219 : decode cX8_value 219 = .ok (.ifCond .eq 11, 3) := dk_153 0 11 (dk_at dksX8_value_5 9 rfl rfl)
theorem dX8_value_222 : decode cX8_value 222 = .ok (.iload_n 3, 1) := dk_29 (dk_at dksX8_value_5 12 rfl rfl)
theorem dX8_value_223 : decode cX8_value 223 = .ok (.ifCond .eq 7, 3) := dk_153 0 7 (dk_at dksX8_value_5 13 rfl rfl)
theorem dX8_value_226 : decode cX8_value 226 = .ok (.iconst 1, 1) := dk_4 (dk_at dksX8_value_5 16 rfl rfl)
theorem dX8_value_227 : decode cX8_value 227 = .ok (.goto 4, 3) := dk_167 0 4 (dk_at dksX8_value_5 17 rfl rfl)
theorem dX8_value_230 : decode cX8_value 230 = .ok (.iconst 0, 1) := dk_3 (dk_at dksX8_value_5 20 rfl rfl)
theorem dX8_value_231 : decode cX8_value 231 = .ok (.invokestatic 24, 3) := dk_184 0 24 (dk_at dksX8_value_5 21 rfl rfl)
theorem dX8_value_234 : decode cX8_value 234 = .ok (.ireturn, 1) := dk_172 (dk_at dksX8_value_6 0 rfl rfl)
theorem dX8_value_235 : decode cX8_value 235 = .ok (.iload_n 2, 1) := dk_28 (dk_at dksX8_value_6 1 rfl rfl)
theorem dX8_value_236 : decode cX8_value 236 = .ok (.ifCond .ne 7, 3) := dk_154 0 7 (dk_at dksX8_value_6 2 rfl rfl)
theorem dX8_value_239 : decode cX8_value 239 = .ok (.iload_n 3, 1) := dk_29 (dk_at dksX8_value_6 5 rfl rfl)
theorem dX8_value_240 : decode cX8_value 240 = .ok (.ifCond .eq 7, 3) := dk_153 0 7 (dk_at dksX8_value_6 6 rfl rfl)
theorem dX8_value_243 : decode cX8_value 243 = .ok (.iconst 1, 1) := dk_4 (dk_at dksX8_value_6 9 rfl rfl)
theorem dX8_value_244 : decode cX8_value 244 = .ok (.goto 4, 3) := dk_167 0 4 (dk_at dksX8_value_6 10 rfl rfl)
theorem dX8_value_247 : decode cX8_value 247 = .ok (.iconst 0, 1) := dk_3 (dk_at dksX8_value_6 13 rfl rfl)
theorem dX8_value_248 : decode cX8_value 248 = .ok (.invokestatic 24, 3) := dk_184 0 24 (dk_at dksX8_value_6 14 rfl rfl)
theorem dX8_value_251 : decode cX8_value 251 = .ok (.ireturn, 1) := dk_172 (dk_at dksX8_value_6 17 rfl rfl)
abbrev cX8_is : ByteArray := prog_26_method_2_code
def yX8_is : MethodName := ⟨RX8, "is", "(Z)I"⟩
def dkwX8_is_0 : List UInt8 := [26, 153, 0, 7, 4, 167, 0, 4, 3, 172]
abbrev dktX8_is_0 : List UInt8 := dkwX8_is_0 ++ []
theorem dksX8_is_0 : cX8_is.data.toList.drop 0 = dktX8_is_0 := by decide +kernel
theorem dX8_is_0 : decode cX8_is 0 = .ok (.iload_n 0, 1) := dk_26 (dk_at dksX8_is_0 0 rfl rfl)
theorem dX8_is_1 : decode cX8_is 1 = .ok (.ifCond .eq 7, 3) := dk_153 0 7 (dk_at dksX8_is_0 1 rfl rfl)
theorem dX8_is_4 : decode cX8_is 4 = .ok (.iconst 1, 1) := dk_4 (dk_at dksX8_is_0 4 rfl rfl)
theorem dX8_is_5 : decode cX8_is 5 = .ok (.goto 4, 3) := dk_167 0 4 (dk_at dksX8_is_0 5 rfl rfl)
theorem dX8_is_8 : decode cX8_is 8 = .ok (.iconst 0, 1) := dk_3 (dk_at dksX8_is_0 8 rfl rfl)
theorem dX8_is_9 : decode cX8_is 9 = .ok (.ireturn, 1) := dk_172 (dk_at dksX8_is_0 9 rfl rfl)
abbrev cX8_init : ByteArray := prog_26_method_1_code
def yX8_init : MethodName := ⟨RX8, "<init>", "(ILMeadowMilk$Term;LMeadowMilk$Term;)V"⟩
def dkwX8_init_0 : List UInt8 := [42, 183, 0, 1, 42, 27, 181, 0, 7, 42, 44, 181, 0, 13, 42, 45, 181, 0, 17, 177]
abbrev dktX8_init_0 : List UInt8 := dkwX8_init_0 ++ []
theorem dksX8_init_0 : cX8_init.data.toList.drop 0 = dktX8_init_0 := by decide +kernel
theorem dX8_init_0 : decode cX8_init 0 = .ok (.aload_n 0, 1) := dk_42 (dk_at dksX8_init_0 0 rfl rfl)
theorem dX8_init_1 : decode cX8_init 1 = .ok (.invokespecial 1, 3) := dk_183 0 1 (dk_at dksX8_init_0 1 rfl rfl)
theorem dX8_init_4 : decode cX8_init 4 = .ok (.aload_n 0, 1) := dk_42 (dk_at dksX8_init_0 4 rfl rfl)
theorem dX8_init_5 : decode cX8_init 5 = .ok (.iload_n 1, 1) := dk_27 (dk_at dksX8_init_0 5 rfl rfl)
theorem dX8_init_6 : decode cX8_init 6 = .ok (.putfield 7, 3) := dk_181 0 7 (dk_at dksX8_init_0 6 rfl rfl)
theorem dX8_init_9 : decode cX8_init 9 = .ok (.aload_n 0, 1) := dk_42 (dk_at dksX8_init_0 9 rfl rfl)
theorem dX8_init_10 : decode cX8_init 10 = .ok (.aload_n 2, 1) := dk_44 (dk_at dksX8_init_0 10 rfl rfl)
theorem dX8_init_11 : decode cX8_init 11 = .ok (.putfield 13, 3) := dk_181 0 13 (dk_at dksX8_init_0 11 rfl rfl)
theorem dX8_init_14 : decode cX8_init 14 = .ok (.aload_n 0, 1) := dk_42 (dk_at dksX8_init_0 14 rfl rfl)
theorem dX8_init_15 : decode cX8_init 15 = .ok (.aload_n 3, 1) := dk_45 (dk_at dksX8_init_0 15 rfl rfl)
theorem dX8_init_16 : decode cX8_init 16 = .ok (.putfield 17, 3) := dk_181 0 17 (dk_at dksX8_init_0 16 rfl rfl)
theorem dX8_init_19 : decode cX8_init 19 = .ok (.return_, 1) := dk_177 (dk_at dksX8_init_0 19 rfl rfl)
theorem q72 : (Jvm.Cond.initialized "MeadowMilk$Two") ∈ lw_all := lw_g (lw_at lw_m1 12 rfl) rfl
theorem q375 : (Jvm.Cond.instanceMethod ({ cls := "MeadowMilk$Two", name := "value", desc := "(LMeadowMilk$Facts;)I" } : Jvm.MethodName)) ∈ lw_all := lw_g (lw_at lw_m2 75 rfl) rfl
theorem q376 : (Jvm.Cond.code ({ cls := "MeadowMilk$Two", name := "value", desc := "(LMeadowMilk$Facts;)I" } : Jvm.MethodName) prog_26_method_3_code (4 : Nat) (Option.some Jvm.ClassFile.FieldType.int)) ∈ lw_all := lw_g (lw_at lw_m2 76 rfl) rfl
theorem q377 : (Jvm.Cond.methodLink "MeadowMilk$Two" (20 : Nat) ({ cls := "MeadowMilk$Term", name := "value", desc := "(LMeadowMilk$Facts;)I" } : Jvm.MethodName)) ∈ lw_all := lw_g (lw_at lw_m2 77 rfl) rfl
theorem q378 : (Jvm.Cond.methodLink "MeadowMilk$Two" (24 : Nat) ({ cls := "MeadowMilk$Two", name := "is", desc := "(Z)I" } : Jvm.MethodName)) ∈ lw_all := lw_g (lw_at lw_m2 78 rfl) rfl
theorem q379 : (Jvm.Cond.static ({ cls := "MeadowMilk$Two", name := "is", desc := "(Z)I" } : Jvm.MethodName)) ∈ lw_all := lw_g (lw_at lw_m2 79 rfl) rfl
theorem q380 : (Jvm.Cond.code ({ cls := "MeadowMilk$Two", name := "is", desc := "(Z)I" } : Jvm.MethodName) prog_26_method_2_code (1 : Nat) (Option.some Jvm.ClassFile.FieldType.int)) ∈ lw_all := lw_g (lw_at lw_m2 80 rfl) rfl
theorem q381 : (Jvm.Cond.selects "MeadowMilk$Two" ({ cls := "MeadowMilk$Term", name := "value", desc := "(LMeadowMilk$Facts;)I" } : Jvm.MethodName) ({ cls := "MeadowMilk$Two", name := "value", desc := "(LMeadowMilk$Facts;)I" } : Jvm.MethodName)) ∈ lw_all := lw_g (lw_at lw_m2 81 rfl) rfl
theorem q888 : (Jvm.Cond.instantiable "MeadowMilk$Two" (3 : Nat)) ∈ lw_all := lw_g (lw_at lw_m4 108 rfl) rfl
theorem q890 : (Jvm.Cond.instanceMethod ({ cls := "MeadowMilk$Two", name := "<init>", desc := "(ILMeadowMilk$Term;LMeadowMilk$Term;)V" } : Jvm.MethodName)) ∈ lw_all := lw_g (lw_at lw_m4 110 rfl) rfl
theorem q891 : (Jvm.Cond.code ({ cls := "MeadowMilk$Two", name := "<init>", desc := "(ILMeadowMilk$Term;LMeadowMilk$Term;)V" } : Jvm.MethodName) prog_26_method_1_code (4 : Nat) (Option.none : Option Jvm.ClassFile.FieldType)) ∈ lw_all := lw_g (lw_at lw_m4 111 rfl) rfl
theorem q892 : (Jvm.Cond.methodLinkNest "MeadowMilk$Two" (1 : Nat) ({ cls := "MeadowMilk$Term", name := "<init>", desc := "()V" } : Jvm.MethodName) "MeadowMilk") ∈ lw_tbl := lw_at lw_m4 112 rfl
theorem q893 : (Jvm.Cond.fieldLink "MeadowMilk$Two" (7 : Nat) "MeadowMilk$Two" "sign" "I") ∈ lw_all := lw_g (lw_at lw_m4 113 rfl) rfl
theorem q894 : (Jvm.Cond.fieldLink "MeadowMilk$Two" (13 : Nat) "MeadowMilk$Two" "a" "LMeadowMilk$Term;") ∈ lw_all := lw_g (lw_at lw_m4 114 rfl) rfl
theorem q895 : (Jvm.Cond.fieldLink "MeadowMilk$Two" (17 : Nat) "MeadowMilk$Two" "b" "LMeadowMilk$Term;") ∈ lw_all := lw_g (lw_at lw_m4 115 rfl) rfl
theorem q896 : (Jvm.Cond.laysFinal "MeadowMilk$Two" "MeadowMilk$Two" "sign" "I") ∈ lw_all := lw_g (lw_at lw_m4 116 rfl) rfl
theorem q897 : (Jvm.Cond.soleField "MeadowMilk$Two" "sign") ∈ lw_all := lw_g (lw_at lw_m4 117 rfl) rfl
theorem q898 : (Jvm.Cond.laysFinal "MeadowMilk$Two" "MeadowMilk$Two" "a" "LMeadowMilk$Term;") ∈ lw_all := lw_g (lw_at lw_m4 118 rfl) rfl
theorem q899 : (Jvm.Cond.soleField "MeadowMilk$Two" "a") ∈ lw_all := lw_g (lw_at lw_m4 119 rfl) rfl
theorem q900 : (Jvm.Cond.laysFinal "MeadowMilk$Two" "MeadowMilk$Two" "b" "LMeadowMilk$Term;") ∈ lw_all := lw_g (lw_at lw_m4 120 rfl) rfl
theorem q901 : (Jvm.Cond.soleField "MeadowMilk$Two" "b") ∈ lw_all := lw_g (lw_at lw_m4 121 rfl) rfl
theorem q902 : (Jvm.Cond.superclass "MeadowMilk$Two" "MeadowMilk$Term") ∈ lw_all := lw_g (lw_at lw_m4 122 rfl) rfl
theorem q1875 : (Jvm.Cond.castable "MeadowMilk$Two" "MeadowMilk$Term") ∈ lw_tbl := lw_at lw_m8 135 rfl
theorem in_X8 : ∀ w ∈ wsX80, w ∈ lw_all := lw_in wsX80 [896, 898, 900] (by decide +kernel) (by decide +kernel)
/-! MeadowMilk$Named -/
set_option maxRecDepth 100000
def RX17 : String := "MeadowMilk$Named"
def TX17 : u_T := fun k => match k with
  | _ => ("MeadowMilk$Named", "name", "I", true)
def tyX17 : Nat → FieldType := fun k => match k with
  | _ => .int
abbrev wsX170 : List Cond := u_ws RX17 TX17 1
theorem nmX17 : ∀ a, a < 1 → ∀ b, b < 1 → a ≠ b → (TX17 a).2.1 ≠ (TX17 b).2.1 := by decide +kernel
theorem tyX17_ok : ∀ k, k < 1 → parseFieldDescriptor (TX17 k).2.2.1 = some (tyX17 k) := by decide +kernel
abbrev cX17_value : ByteArray := prog_15_method_2_code
def yX17_value : MethodName := ⟨RX17, "value", "(LMeadowMilk$Facts;)I"⟩
def dkwX17_value_0 : List UInt8 := [43, 180, 0, 13, 42, 180, 0, 7, 46, 172]
abbrev dktX17_value_0 : List UInt8 := dkwX17_value_0 ++ []
theorem dksX17_value_0 : cX17_value.data.toList.drop 0 = dktX17_value_0 := by decide +kernel
theorem dX17_value_0 : decode cX17_value 0 = .ok (.aload_n 1, 1) := dk_43 (dk_at dksX17_value_0 0 rfl rfl)
theorem dX17_value_1 : decode cX17_value 1 = .ok (.getfield 13, 3) := dk_180 0 13 (dk_at dksX17_value_0 1 rfl rfl)
theorem dX17_value_4 : decode cX17_value 4 = .ok (.aload_n 0, 1) := dk_42 (dk_at dksX17_value_0 4 rfl rfl)
theorem dX17_value_5 : decode cX17_value 5 = .ok (.getfield 7, 3) := dk_180 0 7 (dk_at dksX17_value_0 5 rfl rfl)
theorem dX17_value_8 : decode cX17_value 8 = .ok (.iaload, 1) := dk_46 (dk_at dksX17_value_0 8 rfl rfl)
theorem dX17_value_9 : decode cX17_value 9 = .ok (.ireturn, 1) := dk_172 (dk_at dksX17_value_0 9 rfl rfl)
abbrev cX17_init : ByteArray := prog_15_method_1_code
def yX17_init : MethodName := ⟨RX17, "<init>", "(I)V"⟩
def dkwX17_init_0 : List UInt8 := [42, 183, 0, 1, 42, 27, 181, 0, 7, 177]
abbrev dktX17_init_0 : List UInt8 := dkwX17_init_0 ++ []
theorem dksX17_init_0 : cX17_init.data.toList.drop 0 = dktX17_init_0 := by decide +kernel
theorem dX17_init_0 : decode cX17_init 0 = .ok (.aload_n 0, 1) := dk_42 (dk_at dksX17_init_0 0 rfl rfl)
theorem dX17_init_1 : decode cX17_init 1 = .ok (.invokespecial 1, 3) := dk_183 0 1 (dk_at dksX17_init_0 1 rfl rfl)
theorem dX17_init_4 : decode cX17_init 4 = .ok (.aload_n 0, 1) := dk_42 (dk_at dksX17_init_0 4 rfl rfl)
theorem dX17_init_5 : decode cX17_init 5 = .ok (.iload_n 1, 1) := dk_27 (dk_at dksX17_init_0 5 rfl rfl)
theorem dX17_init_6 : decode cX17_init 6 = .ok (.putfield 7, 3) := dk_181 0 7 (dk_at dksX17_init_0 6 rfl rfl)
theorem dX17_init_9 : decode cX17_init 9 = .ok (.return_, 1) := dk_177 (dk_at dksX17_init_0 9 rfl rfl)
theorem q87 : (Jvm.Cond.initialized "MeadowMilk$Named") ∈ lw_all := lw_g (lw_at lw_m1 27 rfl) rfl
theorem q191 : (Jvm.Cond.fieldLinkNest "MeadowMilk$Named" (13 : Nat) "MeadowMilk$Facts" "named" "[I" "MeadowMilk") ∈ lw_tbl := lw_at lw_m1 131 rfl
theorem q368 : (Jvm.Cond.selects "MeadowMilk$Named" ({ cls := "MeadowMilk$Term", name := "value", desc := "(LMeadowMilk$Facts;)I" } : Jvm.MethodName) ({ cls := "MeadowMilk$Named", name := "value", desc := "(LMeadowMilk$Facts;)I" } : Jvm.MethodName)) ∈ lw_all := lw_g (lw_at lw_m2 68 rfl) rfl
theorem q369 : (Jvm.Cond.instanceMethod ({ cls := "MeadowMilk$Named", name := "value", desc := "(LMeadowMilk$Facts;)I" } : Jvm.MethodName)) ∈ lw_all := lw_g (lw_at lw_m2 69 rfl) rfl
theorem q370 : (Jvm.Cond.code ({ cls := "MeadowMilk$Named", name := "value", desc := "(LMeadowMilk$Facts;)I" } : Jvm.MethodName) prog_15_method_2_code (2 : Nat) (Option.some Jvm.ClassFile.FieldType.int)) ∈ lw_all := lw_g (lw_at lw_m2 70 rfl) rfl
theorem q824 : (Jvm.Cond.instantiable "MeadowMilk$Named" (1 : Nat)) ∈ lw_all := lw_g (lw_at lw_m4 44 rfl) rfl
theorem q826 : (Jvm.Cond.instanceMethod ({ cls := "MeadowMilk$Named", name := "<init>", desc := "(I)V" } : Jvm.MethodName)) ∈ lw_all := lw_g (lw_at lw_m4 46 rfl) rfl
theorem q827 : (Jvm.Cond.code ({ cls := "MeadowMilk$Named", name := "<init>", desc := "(I)V" } : Jvm.MethodName) prog_15_method_1_code (2 : Nat) (Option.none : Option Jvm.ClassFile.FieldType)) ∈ lw_all := lw_g (lw_at lw_m4 47 rfl) rfl
theorem q828 : (Jvm.Cond.methodLinkNest "MeadowMilk$Named" (1 : Nat) ({ cls := "MeadowMilk$Term", name := "<init>", desc := "()V" } : Jvm.MethodName) "MeadowMilk") ∈ lw_tbl := lw_at lw_m4 48 rfl
theorem q832 : (Jvm.Cond.fieldLink "MeadowMilk$Named" (7 : Nat) "MeadowMilk$Named" "name" "I") ∈ lw_all := lw_g (lw_at lw_m4 52 rfl) rfl
theorem q833 : (Jvm.Cond.laysFinal "MeadowMilk$Named" "MeadowMilk$Named" "name" "I") ∈ lw_all := lw_g (lw_at lw_m4 53 rfl) rfl
theorem q834 : (Jvm.Cond.soleField "MeadowMilk$Named" "name") ∈ lw_all := lw_g (lw_at lw_m4 54 rfl) rfl
theorem q835 : (Jvm.Cond.superclass "MeadowMilk$Named" "MeadowMilk$Term") ∈ lw_all := lw_g (lw_at lw_m4 55 rfl) rfl
theorem q1872 : (Jvm.Cond.castable "MeadowMilk$Named" "MeadowMilk$Term") ∈ lw_tbl := lw_at lw_m8 132 rfl
theorem in_X17 : ∀ w ∈ wsX170, w ∈ lw_all := lw_in wsX170 [833] (by decide +kernel) (by decide +kernel)
/-! MeadowMilk$Fault -/
set_option maxRecDepth 100000
def RX18 : String := "MeadowMilk$Fault"
def TX18 : u_T := fun k => match k with
  | 0 => ("java/lang/Throwable", "cause", "Ljava/lang/Throwable;", false)
  | 1 => ("java/lang/Throwable", "stackTrace", "[Ljava/lang/StackTraceElement;", false)
  | 2 => ("java/lang/Throwable", "suppressedExceptions", "Ljava/util/List;", false)
  | 3 => ("java/lang/Throwable", "detailMessage", "Ljava/lang/String;", false)
  | 4 => ("java/lang/Throwable", "backtrace", "Ljava/lang/Object;", false)
  | 5 => ("java/lang/Throwable", "depth", "I", false)
  | _ => ("MeadowMilk$Fault", "place", "I", true)
def tyX18 : Nat → FieldType := fun k => match k with
  | 0 => .object "java/lang/Throwable"
  | 1 => .array (.object "java/lang/StackTraceElement")
  | 2 => .object "java/util/List"
  | 3 => .object "java/lang/String"
  | 4 => .object "java/lang/Object"
  | 5 => .int
  | _ => .int
abbrev wsX180 : List Cond := u_ws RX18 TX18 7
theorem nmX18 : ∀ a, a < 7 → ∀ b, b < 7 → a ≠ b → (TX18 a).2.1 ≠ (TX18 b).2.1 := by decide +kernel
theorem tyX18_ok : ∀ k, k < 7 → parseFieldDescriptor (TX18 k).2.2.1 = some (tyX18 k) := by decide +kernel
abbrev cX18_init : ByteArray := prog_6_method_1_code
def yX18_init : MethodName := ⟨RX18, "<init>", "(I)V"⟩
def dkwX18_init_0 : List UInt8 := [42, 1, 1, 3, 3, 183, 0, 1, 42, 27, 181, 0, 7, 177]
abbrev dktX18_init_0 : List UInt8 := dkwX18_init_0 ++ []
theorem dksX18_init_0 : cX18_init.data.toList.drop 0 = dktX18_init_0 := by decide +kernel
theorem dX18_init_0 : decode cX18_init 0 = .ok (.aload_n 0, 1) := dk_42 (dk_at dksX18_init_0 0 rfl rfl)
theorem dX18_init_1 : decode cX18_init 1 = .ok (.aconst_null, 1) := dk_1 (dk_at dksX18_init_0 1 rfl rfl)
theorem dX18_init_2 : decode cX18_init 2 = .ok (.aconst_null, 1) := dk_1 (dk_at dksX18_init_0 2 rfl rfl)
theorem dX18_init_3 : decode cX18_init 3 = .ok (.iconst 0, 1) := dk_3 (dk_at dksX18_init_0 3 rfl rfl)
theorem dX18_init_4 : decode cX18_init 4 = .ok (.iconst 0, 1) := dk_3 (dk_at dksX18_init_0 4 rfl rfl)
theorem dX18_init_5 : decode cX18_init 5 = .ok (.invokespecial 1, 3) := dk_183 0 1 (dk_at dksX18_init_0 5 rfl rfl)
theorem dX18_init_8 : decode cX18_init 8 = .ok (.aload_n 0, 1) := dk_42 (dk_at dksX18_init_0 8 rfl rfl)
theorem dX18_init_9 : decode cX18_init 9 = .ok (.iload_n 1, 1) := dk_27 (dk_at dksX18_init_0 9 rfl rfl)
theorem dX18_init_10 : decode cX18_init 10 = .ok (.putfield 7, 3) := dk_181 0 7 (dk_at dksX18_init_0 10 rfl rfl)
theorem dX18_init_13 : decode cX18_init 13 = .ok (.return_, 1) := dk_177 (dk_at dksX18_init_0 13 rfl rfl)
theorem q88 : (Jvm.Cond.initialized "MeadowMilk$Fault") ∈ lw_all := lw_g (lw_at lw_m1 28 rfl) rfl
theorem q138 : (Jvm.Cond.selects "MeadowMilk$Fault" ({ cls := "java/lang/Throwable", name := "fillInStackTrace", desc := "()Ljava/lang/Throwable;" } : Jvm.MethodName) ({ cls := "java/lang/Throwable", name := "fillInStackTrace", desc := "()Ljava/lang/Throwable;" } : Jvm.MethodName)) ∈ lw_all := lw_g (lw_at lw_m1 78 rfl) rfl
theorem q846 : (Jvm.Cond.instantiable "MeadowMilk$Fault" (7 : Nat)) ∈ lw_all := lw_g (lw_at lw_m4 66 rfl) rfl
theorem q847 : (Jvm.Cond.castable "MeadowMilk$Fault" "MeadowMilk$Fault") ∈ lw_tbl := lw_at lw_m4 67 rfl
theorem q848 : (Jvm.Cond.selects "MeadowMilk$Fault" ({ cls := "java/lang/Throwable", name := "fillInStackTrace", desc := "(I)Ljava/lang/Throwable;" } : Jvm.MethodName) ({ cls := "java/lang/Throwable", name := "fillInStackTrace", desc := "(I)Ljava/lang/Throwable;" } : Jvm.MethodName)) ∈ lw_all := lw_g (lw_at lw_m4 68 rfl) rfl
theorem q849 : (Jvm.Cond.lays "MeadowMilk$Fault" "java/lang/Throwable" "cause" "Ljava/lang/Throwable;") ∈ lw_all := lw_g (lw_at lw_m4 69 rfl) rfl
theorem q850 : (Jvm.Cond.lays "MeadowMilk$Fault" "java/lang/Throwable" "stackTrace" "[Ljava/lang/StackTraceElement;") ∈ lw_all := lw_g (lw_at lw_m4 70 rfl) rfl
theorem q851 : (Jvm.Cond.lays "MeadowMilk$Fault" "java/lang/Throwable" "suppressedExceptions" "Ljava/util/List;") ∈ lw_all := lw_g (lw_at lw_m4 71 rfl) rfl
theorem q852 : (Jvm.Cond.lays "MeadowMilk$Fault" "java/lang/Throwable" "detailMessage" "Ljava/lang/String;") ∈ lw_all := lw_g (lw_at lw_m4 72 rfl) rfl
theorem q853 : (Jvm.Cond.lays "MeadowMilk$Fault" "java/lang/Throwable" "backtrace" "Ljava/lang/Object;") ∈ lw_all := lw_g (lw_at lw_m4 73 rfl) rfl
theorem q855 : (Jvm.Cond.instanceMethod ({ cls := "MeadowMilk$Fault", name := "<init>", desc := "(I)V" } : Jvm.MethodName)) ∈ lw_all := lw_g (lw_at lw_m4 75 rfl) rfl
theorem q856 : (Jvm.Cond.code ({ cls := "MeadowMilk$Fault", name := "<init>", desc := "(I)V" } : Jvm.MethodName) prog_6_method_1_code (2 : Nat) (Option.none : Option Jvm.ClassFile.FieldType)) ∈ lw_all := lw_g (lw_at lw_m4 76 rfl) rfl
theorem q857 : (Jvm.Cond.methodLink "MeadowMilk$Fault" (1 : Nat) ({ cls := "java/lang/RuntimeException", name := "<init>", desc := "(Ljava/lang/String;Ljava/lang/Throwable;ZZ)V" } : Jvm.MethodName)) ∈ lw_all := lw_g (lw_at lw_m4 77 rfl) rfl
theorem q858 : (Jvm.Cond.fieldLink "MeadowMilk$Fault" (7 : Nat) "MeadowMilk$Fault" "place" "I") ∈ lw_all := lw_g (lw_at lw_m4 78 rfl) rfl
theorem q860 : (Jvm.Cond.laysFinal "MeadowMilk$Fault" "MeadowMilk$Fault" "place" "I") ∈ lw_all := lw_g (lw_at lw_m4 80 rfl) rfl
theorem q861 : (Jvm.Cond.soleField "MeadowMilk$Fault" "place") ∈ lw_all := lw_g (lw_at lw_m4 81 rfl) rfl
theorem q862 : (Jvm.Cond.lays "MeadowMilk$Fault" "java/lang/Throwable" "depth" "I") ∈ lw_all := lw_g (lw_at lw_m4 82 rfl) rfl
theorem q863 : (Jvm.Cond.superclass "MeadowMilk$Fault" "java/lang/RuntimeException") ∈ lw_all := lw_g (lw_at lw_m4 83 rfl) rfl
theorem in_X18 : ∀ w ∈ wsX180, w ∈ lw_all := lw_in wsX180 [849, 850, 851, 852, 853, 862, 860] (by decide +kernel) (by decide +kernel)
/-! MeadowMilk$Turned -/
set_option maxRecDepth 100000
def RX19 : String := "MeadowMilk$Turned"
def TX19 : u_T := fun k => match k with
  | _ => ("MeadowMilk$Turned", "of", "LMeadowMilk$Term;", true)
def tyX19 : Nat → FieldType := fun k => match k with
  | _ => .object "MeadowMilk$Term"
abbrev wsX190 : List Cond := u_ws RX19 TX19 1
theorem nmX19 : ∀ a, a < 1 → ∀ b, b < 1 → a ≠ b → (TX19 a).2.1 ≠ (TX19 b).2.1 := by decide +kernel
theorem tyX19_ok : ∀ k, k < 1 → parseFieldDescriptor (TX19 k).2.2.1 = some (tyX19 k) := by decide +kernel
abbrev cX19_value : ByteArray := prog_25_method_2_code
def yX19_value : MethodName := ⟨RX19, "value", "(LMeadowMilk$Facts;)I"⟩
def dkwX19_value_0 : List UInt8 := [42, 180, 0, 7, 43, 182, 0, 13, 154, 0, 7, 4, 167, 0, 4, 3, 172]
abbrev dktX19_value_0 : List UInt8 := dkwX19_value_0 ++ []
theorem dksX19_value_0 : cX19_value.data.toList.drop 0 = dktX19_value_0 := by decide +kernel
theorem dX19_value_0 : decode cX19_value 0 = .ok (.aload_n 0, 1) := dk_42 (dk_at dksX19_value_0 0 rfl rfl)
theorem dX19_value_1 : decode cX19_value 1 = .ok (.getfield 7, 3) := dk_180 0 7 (dk_at dksX19_value_0 1 rfl rfl)
theorem dX19_value_4 : decode cX19_value 4 = .ok (.aload_n 1, 1) := dk_43 (dk_at dksX19_value_0 4 rfl rfl)
theorem dX19_value_5 : decode cX19_value 5 = .ok (.invokevirtual 13, 3) := dk_182 0 13 (dk_at dksX19_value_0 5 rfl rfl)
theorem dX19_value_8 : decode cX19_value 8 = .ok (.ifCond .ne 7, 3) := dk_154 0 7 (dk_at dksX19_value_0 8 rfl rfl)
theorem dX19_value_11 : decode cX19_value 11 = .ok (.iconst 1, 1) := dk_4 (dk_at dksX19_value_0 11 rfl rfl)
theorem dX19_value_12 : decode cX19_value 12 = .ok (.goto 4, 3) := dk_167 0 4 (dk_at dksX19_value_0 12 rfl rfl)
theorem dX19_value_15 : decode cX19_value 15 = .ok (.iconst 0, 1) := dk_3 (dk_at dksX19_value_0 15 rfl rfl)
theorem dX19_value_16 : decode cX19_value 16 = .ok (.ireturn, 1) := dk_172 (dk_at dksX19_value_0 16 rfl rfl)
abbrev cX19_init : ByteArray := prog_25_method_1_code
def yX19_init : MethodName := ⟨RX19, "<init>", "(LMeadowMilk$Term;)V"⟩
def dkwX19_init_0 : List UInt8 := [42, 183, 0, 1, 42, 43, 181, 0, 7, 177]
abbrev dktX19_init_0 : List UInt8 := dkwX19_init_0 ++ []
theorem dksX19_init_0 : cX19_init.data.toList.drop 0 = dktX19_init_0 := by decide +kernel
theorem dX19_init_0 : decode cX19_init 0 = .ok (.aload_n 0, 1) := dk_42 (dk_at dksX19_init_0 0 rfl rfl)
theorem dX19_init_1 : decode cX19_init 1 = .ok (.invokespecial 1, 3) := dk_183 0 1 (dk_at dksX19_init_0 1 rfl rfl)
theorem dX19_init_4 : decode cX19_init 4 = .ok (.aload_n 0, 1) := dk_42 (dk_at dksX19_init_0 4 rfl rfl)
theorem dX19_init_5 : decode cX19_init 5 = .ok (.aload_n 1, 1) := dk_43 (dk_at dksX19_init_0 5 rfl rfl)
theorem dX19_init_6 : decode cX19_init 6 = .ok (.putfield 7, 3) := dk_181 0 7 (dk_at dksX19_init_0 6 rfl rfl)
theorem dX19_init_9 : decode cX19_init 9 = .ok (.return_, 1) := dk_177 (dk_at dksX19_init_0 9 rfl rfl)
theorem q89 : (Jvm.Cond.initialized "MeadowMilk$Turned") ∈ lw_all := lw_g (lw_at lw_m1 29 rfl) rfl
theorem q371 : (Jvm.Cond.selects "MeadowMilk$Turned" ({ cls := "MeadowMilk$Term", name := "value", desc := "(LMeadowMilk$Facts;)I" } : Jvm.MethodName) ({ cls := "MeadowMilk$Turned", name := "value", desc := "(LMeadowMilk$Facts;)I" } : Jvm.MethodName)) ∈ lw_all := lw_g (lw_at lw_m2 71 rfl) rfl
theorem q372 : (Jvm.Cond.instanceMethod ({ cls := "MeadowMilk$Turned", name := "value", desc := "(LMeadowMilk$Facts;)I" } : Jvm.MethodName)) ∈ lw_all := lw_g (lw_at lw_m2 72 rfl) rfl
theorem q373 : (Jvm.Cond.code ({ cls := "MeadowMilk$Turned", name := "value", desc := "(LMeadowMilk$Facts;)I" } : Jvm.MethodName) prog_25_method_2_code (2 : Nat) (Option.some Jvm.ClassFile.FieldType.int)) ∈ lw_all := lw_g (lw_at lw_m2 73 rfl) rfl
theorem q374 : (Jvm.Cond.methodLink "MeadowMilk$Turned" (13 : Nat) ({ cls := "MeadowMilk$Term", name := "value", desc := "(LMeadowMilk$Facts;)I" } : Jvm.MethodName)) ∈ lw_all := lw_g (lw_at lw_m2 74 rfl) rfl
theorem q865 : (Jvm.Cond.instantiable "MeadowMilk$Turned" (1 : Nat)) ∈ lw_all := lw_g (lw_at lw_m4 85 rfl) rfl
theorem q867 : (Jvm.Cond.instanceMethod ({ cls := "MeadowMilk$Turned", name := "<init>", desc := "(LMeadowMilk$Term;)V" } : Jvm.MethodName)) ∈ lw_all := lw_g (lw_at lw_m4 87 rfl) rfl
theorem q868 : (Jvm.Cond.code ({ cls := "MeadowMilk$Turned", name := "<init>", desc := "(LMeadowMilk$Term;)V" } : Jvm.MethodName) prog_25_method_1_code (2 : Nat) (Option.none : Option Jvm.ClassFile.FieldType)) ∈ lw_all := lw_g (lw_at lw_m4 88 rfl) rfl
theorem q869 : (Jvm.Cond.methodLinkNest "MeadowMilk$Turned" (1 : Nat) ({ cls := "MeadowMilk$Term", name := "<init>", desc := "()V" } : Jvm.MethodName) "MeadowMilk") ∈ lw_tbl := lw_at lw_m4 89 rfl
theorem q870 : (Jvm.Cond.fieldLink "MeadowMilk$Turned" (7 : Nat) "MeadowMilk$Turned" "of" "LMeadowMilk$Term;") ∈ lw_all := lw_g (lw_at lw_m4 90 rfl) rfl
theorem q871 : (Jvm.Cond.laysFinal "MeadowMilk$Turned" "MeadowMilk$Turned" "of" "LMeadowMilk$Term;") ∈ lw_all := lw_g (lw_at lw_m4 91 rfl) rfl
theorem q872 : (Jvm.Cond.soleField "MeadowMilk$Turned" "of") ∈ lw_all := lw_g (lw_at lw_m4 92 rfl) rfl
theorem q873 : (Jvm.Cond.superclass "MeadowMilk$Turned" "MeadowMilk$Term") ∈ lw_all := lw_g (lw_at lw_m4 93 rfl) rfl
theorem q1873 : (Jvm.Cond.castable "MeadowMilk$Turned" "MeadowMilk$Term") ∈ lw_tbl := lw_at lw_m8 133 rfl
theorem in_X19 : ∀ w ∈ wsX190, w ∈ lw_all := lw_in wsX190 [871] (by decide +kernel) (by decide +kernel)
/-! MeadowMilk$Figure -/
set_option maxRecDepth 100000
def RX20 : String := "MeadowMilk$Figure"
def TX20 : u_T := fun k => match k with
  | _ => ("MeadowMilk$Figure", "v", "I", true)
def tyX20 : Nat → FieldType := fun k => match k with
  | _ => .int
abbrev wsX200 : List Cond := u_ws RX20 TX20 1
theorem nmX20 : ∀ a, a < 1 → ∀ b, b < 1 → a ≠ b → (TX20 a).2.1 ≠ (TX20 b).2.1 := by decide +kernel
theorem tyX20_ok : ∀ k, k < 1 → parseFieldDescriptor (TX20 k).2.2.1 = some (tyX20 k) := by decide +kernel
abbrev cX20_value : ByteArray := prog_7_method_2_code
def yX20_value : MethodName := ⟨RX20, "value", "(LMeadowMilk$Facts;)I"⟩
theorem dX20_value_0 : decode cX20_value 0 = .ok (.aload_n 0, 1) := by decide +kernel
theorem dX20_value_1 : decode cX20_value 1 = .ok (.getfield 7, 3) := by decide +kernel
theorem dX20_value_4 : decode cX20_value 4 = .ok (.ireturn, 1) := by decide +kernel
abbrev cX20_init : ByteArray := prog_7_method_1_code
def yX20_init : MethodName := ⟨RX20, "<init>", "(I)V"⟩
def dkwX20_init_0 : List UInt8 := [42, 183, 0, 1, 42, 27, 181, 0, 7, 177]
abbrev dktX20_init_0 : List UInt8 := dkwX20_init_0 ++ []
theorem dksX20_init_0 : cX20_init.data.toList.drop 0 = dktX20_init_0 := by decide +kernel
theorem dX20_init_0 : decode cX20_init 0 = .ok (.aload_n 0, 1) := dk_42 (dk_at dksX20_init_0 0 rfl rfl)
theorem dX20_init_1 : decode cX20_init 1 = .ok (.invokespecial 1, 3) := dk_183 0 1 (dk_at dksX20_init_0 1 rfl rfl)
theorem dX20_init_4 : decode cX20_init 4 = .ok (.aload_n 0, 1) := dk_42 (dk_at dksX20_init_0 4 rfl rfl)
theorem dX20_init_5 : decode cX20_init 5 = .ok (.iload_n 1, 1) := dk_27 (dk_at dksX20_init_0 5 rfl rfl)
theorem dX20_init_6 : decode cX20_init 6 = .ok (.putfield 7, 3) := dk_181 0 7 (dk_at dksX20_init_0 6 rfl rfl)
theorem dX20_init_9 : decode cX20_init 9 = .ok (.return_, 1) := dk_177 (dk_at dksX20_init_0 9 rfl rfl)
theorem q90 : (Jvm.Cond.initialized "MeadowMilk$Figure") ∈ lw_all := lw_g (lw_at lw_m1 30 rfl) rfl
theorem q365 : (Jvm.Cond.selects "MeadowMilk$Figure" ({ cls := "MeadowMilk$Term", name := "value", desc := "(LMeadowMilk$Facts;)I" } : Jvm.MethodName) ({ cls := "MeadowMilk$Figure", name := "value", desc := "(LMeadowMilk$Facts;)I" } : Jvm.MethodName)) ∈ lw_all := lw_g (lw_at lw_m2 65 rfl) rfl
theorem q366 : (Jvm.Cond.instanceMethod ({ cls := "MeadowMilk$Figure", name := "value", desc := "(LMeadowMilk$Facts;)I" } : Jvm.MethodName)) ∈ lw_all := lw_g (lw_at lw_m2 66 rfl) rfl
theorem q367 : (Jvm.Cond.code ({ cls := "MeadowMilk$Figure", name := "value", desc := "(LMeadowMilk$Facts;)I" } : Jvm.MethodName) prog_7_method_2_code (2 : Nat) (Option.some Jvm.ClassFile.FieldType.int)) ∈ lw_all := lw_g (lw_at lw_m2 67 rfl) rfl
theorem q877 : (Jvm.Cond.instantiable "MeadowMilk$Figure" (1 : Nat)) ∈ lw_all := lw_g (lw_at lw_m4 97 rfl) rfl
theorem q879 : (Jvm.Cond.instanceMethod ({ cls := "MeadowMilk$Figure", name := "<init>", desc := "(I)V" } : Jvm.MethodName)) ∈ lw_all := lw_g (lw_at lw_m4 99 rfl) rfl
theorem q880 : (Jvm.Cond.code ({ cls := "MeadowMilk$Figure", name := "<init>", desc := "(I)V" } : Jvm.MethodName) prog_7_method_1_code (2 : Nat) (Option.none : Option Jvm.ClassFile.FieldType)) ∈ lw_all := lw_g (lw_at lw_m4 100 rfl) rfl
theorem q881 : (Jvm.Cond.methodLinkNest "MeadowMilk$Figure" (1 : Nat) ({ cls := "MeadowMilk$Term", name := "<init>", desc := "()V" } : Jvm.MethodName) "MeadowMilk") ∈ lw_tbl := lw_at lw_m4 101 rfl
theorem q882 : (Jvm.Cond.fieldLink "MeadowMilk$Figure" (7 : Nat) "MeadowMilk$Figure" "v" "I") ∈ lw_all := lw_g (lw_at lw_m4 102 rfl) rfl
theorem q883 : (Jvm.Cond.laysFinal "MeadowMilk$Figure" "MeadowMilk$Figure" "v" "I") ∈ lw_all := lw_g (lw_at lw_m4 103 rfl) rfl
theorem q884 : (Jvm.Cond.soleField "MeadowMilk$Figure" "v") ∈ lw_all := lw_g (lw_at lw_m4 104 rfl) rfl
theorem q885 : (Jvm.Cond.superclass "MeadowMilk$Figure" "MeadowMilk$Term") ∈ lw_all := lw_g (lw_at lw_m4 105 rfl) rfl
theorem q1874 : (Jvm.Cond.castable "MeadowMilk$Figure" "MeadowMilk$Term") ∈ lw_tbl := lw_at lw_m8 134 rfl
theorem in_X20 : ∀ w ∈ wsX200, w ∈ lw_all := lw_in wsX200 [883] (by decide +kernel) (by decide +kernel)
/-! MeadowMilk$Sheet -/
set_option maxRecDepth 100000
def RX21 : String := "MeadowMilk$Sheet"
abbrev cX21_init : ByteArray := prog_19_method_1_code
def yX21_init : MethodName := ⟨RX21, "<init>", "()V"⟩
theorem dX21_init_0 : decode cX21_init 0 = .ok (.aload_n 0, 1) := by decide +kernel
theorem dX21_init_1 : decode cX21_init 1 = .ok (.invokespecial 1, 3) := by decide +kernel
theorem dX21_init_4 : decode cX21_init 4 = .ok (.return_, 1) := by decide +kernel
abbrev cX21_row : ByteArray := prog_19_method_6_code
def yX21_row : MethodName := ⟨RX21, "row", "()[I"⟩
def dkwX21_row_1 : List UInt8 := [132, 2, 1, 167, 255, 239, 43, 176]
abbrev dktX21_row_1 : List UInt8 := dkwX21_row_1 ++ []
def dkwX21_row_0 : List UInt8 := [42, 182, 0, 7, 188, 10, 76, 3, 61, 28, 43, 190, 162, 0, 17, 43, 28, 42, 28, 182, 0, 13, 79]
abbrev dktX21_row_0 : List UInt8 := dkwX21_row_0 ++ dktX21_row_1
theorem dksX21_row_0 : cX21_row.data.toList.drop 0 = dktX21_row_0 := by decide +kernel
theorem dksX21_row_1 : cX21_row.data.toList.drop 23 = dktX21_row_1 := dk_seg dksX21_row_0 23 rfl rfl
theorem dX21_row_0 : decode cX21_row 0 = .ok (.aload_n 0, 1) := dk_42 (dk_at dksX21_row_0 0 rfl rfl)
theorem dX21_row_1 : decode cX21_row 1 = .ok (.invokevirtual 7, 3) := dk_182 0 7 (dk_at dksX21_row_0 1 rfl rfl)
theorem dX21_row_4 : decode cX21_row 4 = .ok (.newarray .int, 2) := dk_188_10 (dk_at dksX21_row_0 4 rfl rfl)
theorem dX21_row_6 : decode cX21_row 6 = .ok (.astore_n 1, 1) := dk_76 (dk_at dksX21_row_0 6 rfl rfl)
theorem dX21_row_7 : decode cX21_row 7 = .ok (.iconst 0, 1) := dk_3 (dk_at dksX21_row_0 7 rfl rfl)
theorem dX21_row_8 : decode cX21_row 8 = .ok (.istore_n 2, 1) := dk_61 (dk_at dksX21_row_0 8 rfl rfl)
theorem dX21_row_9 : decode cX21_row 9 = .ok (.iload_n 2, 1) := dk_28 (dk_at dksX21_row_0 9 rfl rfl)
theorem dX21_row_10 : decode cX21_row 10 = .ok (.aload_n 1, 1) := dk_43 (dk_at dksX21_row_0 10 rfl rfl)
theorem dX21_row_11 : decode cX21_row 11 = .ok (.arraylength, 1) := dk_190 (dk_at dksX21_row_0 11 rfl rfl)
theorem dX21_row_12 : decode cX21_row 12 = .ok (.if_icmp .ge 17, 3) := dk_162 0 17 (dk_at dksX21_row_0 12 rfl rfl)
theorem dX21_row_15 : decode cX21_row 15 = .ok (.aload_n 1, 1) := dk_43 (dk_at dksX21_row_0 15 rfl rfl)
theorem dX21_row_16 : decode cX21_row 16 = .ok (.iload_n 2, 1) := dk_28 (dk_at dksX21_row_0 16 rfl rfl)
theorem dX21_row_17 : decode cX21_row 17 = .ok (.aload_n 0, 1) := dk_42 (dk_at dksX21_row_0 17 rfl rfl)
theorem dX21_row_18 : decode cX21_row 18 = .ok (.iload_n 2, 1) := dk_28 (dk_at dksX21_row_0 18 rfl rfl)
theorem dX21_row_19 : decode cX21_row 19 = .ok (.invokevirtual 13, 3) := dk_182 0 13 (dk_at dksX21_row_0 19 rfl rfl)
theorem dX21_row_22 : decode cX21_row 22 = .ok (.iastore, 1) := dk_79 (dk_at dksX21_row_0 22 rfl rfl)
theorem dX21_row_23 : decode cX21_row 23 = .ok (.iinc 2 1, 3) := dk_132 2 1 (dk_at dksX21_row_1 0 rfl rfl)
theorem dX21_row_26 : decode cX21_row 26 = .ok (.goto (-17), 3) := dk_167 255 239 (dk_at dksX21_row_1 3 rfl rfl)
theorem dX21_row_29 : decode cX21_row 29 = .ok (.aload_n 1, 1) := dk_43 (dk_at dksX21_row_1 6 rfl rfl)
theorem dX21_row_30 : decode cX21_row 30 = .ok (.areturn, 1) := dk_176 (dk_at dksX21_row_1 7 rfl rfl)
theorem q93 : (Jvm.Cond.initialized "MeadowMilk$Sheet") ∈ lw_all := lw_g (lw_at lw_m1 33 rfl) rfl
theorem q1029 : (Jvm.Cond.declares ({ cls := "MeadowMilk$Sheet", name := "size", desc := "()I" } : Jvm.MethodName)) ∈ lw_tbl := lw_at lw_m5 9 rfl
theorem q1030 : (Jvm.Cond.sameMethod "MeadowMilk$Sheet" "MeadowMilk$Sheet" "size" "()I") ∈ lw_all := lw_g (lw_at lw_m5 10 rfl) rfl
theorem q1041 : (Jvm.Cond.declares ({ cls := "MeadowMilk$Sheet", name := "get", desc := "(I)I" } : Jvm.MethodName)) ∈ lw_tbl := lw_at lw_m5 21 rfl
theorem q1042 : (Jvm.Cond.sameMethod "MeadowMilk$Sheet" "MeadowMilk$Sheet" "get" "(I)I") ∈ lw_all := lw_g (lw_at lw_m5 22 rfl) rfl
theorem q1291 : (Jvm.Cond.instanceMethod ({ cls := "MeadowMilk$Sheet", name := "<init>", desc := "()V" } : Jvm.MethodName)) ∈ lw_all := lw_g (lw_at lw_m6 31 rfl) rfl
theorem q1292 : (Jvm.Cond.code ({ cls := "MeadowMilk$Sheet", name := "<init>", desc := "()V" } : Jvm.MethodName) prog_19_method_1_code (1 : Nat) (Option.none : Option Jvm.ClassFile.FieldType)) ∈ lw_all := lw_g (lw_at lw_m6 32 rfl) rfl
theorem q1293 : (Jvm.Cond.methodLink "MeadowMilk$Sheet" (1 : Nat) ({ cls := "java/lang/Object", name := "<init>", desc := "()V" } : Jvm.MethodName)) ∈ lw_all := lw_g (lw_at lw_m6 33 rfl) rfl
theorem q1324 : (Jvm.Cond.declares ({ cls := "MeadowMilk$Sheet", name := "put", desc := "(II)V" } : Jvm.MethodName)) ∈ lw_tbl := lw_at lw_m6 64 rfl
theorem q1325 : (Jvm.Cond.sameMethod "MeadowMilk$Sheet" "MeadowMilk$Sheet" "put" "(II)V") ∈ lw_all := lw_g (lw_at lw_m6 65 rfl) rfl
theorem q1340 : (Jvm.Cond.declares ({ cls := "MeadowMilk$Sheet", name := "width", desc := "()I" } : Jvm.MethodName)) ∈ lw_tbl := lw_at lw_m6 80 rfl
theorem q1341 : (Jvm.Cond.sameMethod "MeadowMilk$Sheet" "MeadowMilk$Sheet" "width" "()I") ∈ lw_all := lw_g (lw_at lw_m6 81 rfl) rfl
theorem q1352 : (Jvm.Cond.instanceMethod ({ cls := "MeadowMilk$Sheet", name := "row", desc := "()[I" } : Jvm.MethodName)) ∈ lw_all := lw_g (lw_at lw_m6 92 rfl) rfl
theorem q1353 : (Jvm.Cond.sameMethod "MeadowMilk$Sheet" "MeadowMilk$Sheet" "row" "()[I") ∈ lw_all := lw_g (lw_at lw_m6 93 rfl) rfl
theorem q1357 : (Jvm.Cond.code ({ cls := "MeadowMilk$Sheet", name := "row", desc := "()[I" } : Jvm.MethodName) prog_19_method_6_code (3 : Nat) (Option.some (Jvm.ClassFile.FieldType.array Jvm.ClassFile.FieldType.int))) ∈ lw_all := lw_g (lw_at lw_m6 97 rfl) rfl
theorem q1358 : (Jvm.Cond.methodLink "MeadowMilk$Sheet" (7 : Nat) ({ cls := "MeadowMilk$Sheet", name := "size", desc := "()I" } : Jvm.MethodName)) ∈ lw_all := lw_g (lw_at lw_m6 98 rfl) rfl
theorem q1359 : (Jvm.Cond.methodLink "MeadowMilk$Sheet" (13 : Nat) ({ cls := "MeadowMilk$Sheet", name := "get", desc := "(I)I" } : Jvm.MethodName)) ∈ lw_all := lw_g (lw_at lw_m6 99 rfl) rfl
/-! MeadowMilk$Bytes -/
set_option maxRecDepth 100000
def RX22 : String := "MeadowMilk$Bytes"
def TX22 : u_T := fun k => match k with
  | _ => ("MeadowMilk$Bytes", "row", "[B", true)
def tyX22 : Nat → FieldType := fun k => match k with
  | _ => .array .byte
abbrev wsX220 : List Cond := u_ws RX22 TX22 1
theorem nmX22 : ∀ a, a < 1 → ∀ b, b < 1 → a ≠ b → (TX22 a).2.1 ≠ (TX22 b).2.1 := by decide +kernel
theorem tyX22_ok : ∀ k, k < 1 → parseFieldDescriptor (TX22 k).2.2.1 = some (tyX22 k) := by decide +kernel
abbrev cX22_size : ByteArray := prog_2_method_2_code
def yX22_size : MethodName := ⟨RX22, "size", "()I"⟩
def dkwX22_size_0 : List UInt8 := [42, 180, 0, 7, 190, 172]
abbrev dktX22_size_0 : List UInt8 := dkwX22_size_0 ++ []
theorem dksX22_size_0 : cX22_size.data.toList.drop 0 = dktX22_size_0 := by decide +kernel
theorem dX22_size_0 : decode cX22_size 0 = .ok (.aload_n 0, 1) := dk_42 (dk_at dksX22_size_0 0 rfl rfl)
theorem dX22_size_1 : decode cX22_size 1 = .ok (.getfield 7, 3) := dk_180 0 7 (dk_at dksX22_size_0 1 rfl rfl)
theorem dX22_size_4 : decode cX22_size 4 = .ok (.arraylength, 1) := dk_190 (dk_at dksX22_size_0 4 rfl rfl)
theorem dX22_size_5 : decode cX22_size 5 = .ok (.ireturn, 1) := dk_172 (dk_at dksX22_size_0 5 rfl rfl)
abbrev cX22_get : ByteArray := prog_2_method_3_code
def yX22_get : MethodName := ⟨RX22, "get", "(I)I"⟩
def dkwX22_get_0 : List UInt8 := [42, 180, 0, 7, 27, 51, 172]
abbrev dktX22_get_0 : List UInt8 := dkwX22_get_0 ++ []
theorem dksX22_get_0 : cX22_get.data.toList.drop 0 = dktX22_get_0 := by decide +kernel
theorem dX22_get_0 : decode cX22_get 0 = .ok (.aload_n 0, 1) := dk_42 (dk_at dksX22_get_0 0 rfl rfl)
theorem dX22_get_1 : decode cX22_get 1 = .ok (.getfield 7, 3) := dk_180 0 7 (dk_at dksX22_get_0 1 rfl rfl)
theorem dX22_get_4 : decode cX22_get 4 = .ok (.iload_n 1, 1) := dk_27 (dk_at dksX22_get_0 4 rfl rfl)
theorem dX22_get_5 : decode cX22_get 5 = .ok (.baload, 1) := dk_51 (dk_at dksX22_get_0 5 rfl rfl)
theorem dX22_get_6 : decode cX22_get 6 = .ok (.ireturn, 1) := dk_172 (dk_at dksX22_get_0 6 rfl rfl)
abbrev cX22_init : ByteArray := prog_2_method_1_code
def yX22_init : MethodName := ⟨RX22, "<init>", "(I)V"⟩
def dkwX22_init_0 : List UInt8 := [42, 183, 0, 1, 42, 27, 188, 8, 181, 0, 7, 177]
abbrev dktX22_init_0 : List UInt8 := dkwX22_init_0 ++ []
theorem dksX22_init_0 : cX22_init.data.toList.drop 0 = dktX22_init_0 := by decide +kernel
theorem dX22_init_0 : decode cX22_init 0 = .ok (.aload_n 0, 1) := dk_42 (dk_at dksX22_init_0 0 rfl rfl)
theorem dX22_init_1 : decode cX22_init 1 = .ok (.invokespecial 1, 3) := dk_183 0 1 (dk_at dksX22_init_0 1 rfl rfl)
theorem dX22_init_4 : decode cX22_init 4 = .ok (.aload_n 0, 1) := dk_42 (dk_at dksX22_init_0 4 rfl rfl)
theorem dX22_init_5 : decode cX22_init 5 = .ok (.iload_n 1, 1) := dk_27 (dk_at dksX22_init_0 5 rfl rfl)
theorem dX22_init_6 : decode cX22_init 6 = .ok (.newarray .byte, 2) := dk_188_8 (dk_at dksX22_init_0 6 rfl rfl)
theorem dX22_init_8 : decode cX22_init 8 = .ok (.putfield 7, 3) := dk_181 0 7 (dk_at dksX22_init_0 8 rfl rfl)
theorem dX22_init_11 : decode cX22_init 11 = .ok (.return_, 1) := dk_177 (dk_at dksX22_init_0 11 rfl rfl)
abbrev cX22_put : ByteArray := prog_2_method_4_code
def yX22_put : MethodName := ⟨RX22, "put", "(II)V"⟩
def dkwX22_put_0 : List UInt8 := [42, 180, 0, 7, 27, 28, 145, 84, 177]
abbrev dktX22_put_0 : List UInt8 := dkwX22_put_0 ++ []
theorem dksX22_put_0 : cX22_put.data.toList.drop 0 = dktX22_put_0 := by decide +kernel
theorem dX22_put_0 : decode cX22_put 0 = .ok (.aload_n 0, 1) := dk_42 (dk_at dksX22_put_0 0 rfl rfl)
theorem dX22_put_1 : decode cX22_put 1 = .ok (.getfield 7, 3) := dk_180 0 7 (dk_at dksX22_put_0 1 rfl rfl)
theorem dX22_put_4 : decode cX22_put 4 = .ok (.iload_n 1, 1) := dk_27 (dk_at dksX22_put_0 4 rfl rfl)
theorem dX22_put_5 : decode cX22_put 5 = .ok (.iload_n 2, 1) := dk_28 (dk_at dksX22_put_0 5 rfl rfl)
theorem dX22_put_6 : decode cX22_put 6 = .ok (.i2b, 1) := dk_145 (dk_at dksX22_put_0 6 rfl rfl)
theorem dX22_put_7 : decode cX22_put 7 = .ok (.bastore, 1) := dk_84 (dk_at dksX22_put_0 7 rfl rfl)
theorem dX22_put_8 : decode cX22_put 8 = .ok (.return_, 1) := dk_177 (dk_at dksX22_put_0 8 rfl rfl)
abbrev cX22_width : ByteArray := prog_2_method_5_code
def yX22_width : MethodName := ⟨RX22, "width", "()I"⟩
theorem dX22_width_0 : decode cX22_width 0 = .ok (.bipush 8, 2) := by decide +kernel
theorem dX22_width_2 : decode cX22_width 2 = .ok (.ireturn, 1) := by decide +kernel
theorem q94 : (Jvm.Cond.initialized "MeadowMilk$Bytes") ∈ lw_all := lw_g (lw_at lw_m1 34 rfl) rfl
theorem q1031 : (Jvm.Cond.selects "MeadowMilk$Bytes" ({ cls := "MeadowMilk$Sheet", name := "size", desc := "()I" } : Jvm.MethodName) ({ cls := "MeadowMilk$Bytes", name := "size", desc := "()I" } : Jvm.MethodName)) ∈ lw_all := lw_g (lw_at lw_m5 11 rfl) rfl
theorem q1032 : (Jvm.Cond.instanceMethod ({ cls := "MeadowMilk$Bytes", name := "size", desc := "()I" } : Jvm.MethodName)) ∈ lw_all := lw_g (lw_at lw_m5 12 rfl) rfl
theorem q1033 : (Jvm.Cond.code ({ cls := "MeadowMilk$Bytes", name := "size", desc := "()I" } : Jvm.MethodName) prog_2_method_2_code (1 : Nat) (Option.some Jvm.ClassFile.FieldType.int)) ∈ lw_all := lw_g (lw_at lw_m5 13 rfl) rfl
theorem q1043 : (Jvm.Cond.selects "MeadowMilk$Bytes" ({ cls := "MeadowMilk$Sheet", name := "get", desc := "(I)I" } : Jvm.MethodName) ({ cls := "MeadowMilk$Bytes", name := "get", desc := "(I)I" } : Jvm.MethodName)) ∈ lw_all := lw_g (lw_at lw_m5 23 rfl) rfl
theorem q1044 : (Jvm.Cond.instanceMethod ({ cls := "MeadowMilk$Bytes", name := "get", desc := "(I)I" } : Jvm.MethodName)) ∈ lw_all := lw_g (lw_at lw_m5 24 rfl) rfl
theorem q1045 : (Jvm.Cond.code ({ cls := "MeadowMilk$Bytes", name := "get", desc := "(I)I" } : Jvm.MethodName) prog_2_method_3_code (2 : Nat) (Option.some Jvm.ClassFile.FieldType.int)) ∈ lw_all := lw_g (lw_at lw_m5 25 rfl) rfl
theorem q1286 : (Jvm.Cond.instantiable "MeadowMilk$Bytes" (1 : Nat)) ∈ lw_all := lw_g (lw_at lw_m6 26 rfl) rfl
theorem q1288 : (Jvm.Cond.instanceMethod ({ cls := "MeadowMilk$Bytes", name := "<init>", desc := "(I)V" } : Jvm.MethodName)) ∈ lw_all := lw_g (lw_at lw_m6 28 rfl) rfl
theorem q1289 : (Jvm.Cond.code ({ cls := "MeadowMilk$Bytes", name := "<init>", desc := "(I)V" } : Jvm.MethodName) prog_2_method_1_code (2 : Nat) (Option.none : Option Jvm.ClassFile.FieldType)) ∈ lw_all := lw_g (lw_at lw_m6 29 rfl) rfl
theorem q1290 : (Jvm.Cond.methodLinkNest "MeadowMilk$Bytes" (1 : Nat) ({ cls := "MeadowMilk$Sheet", name := "<init>", desc := "()V" } : Jvm.MethodName) "MeadowMilk") ∈ lw_tbl := lw_at lw_m6 30 rfl
theorem q1294 : (Jvm.Cond.fieldLink "MeadowMilk$Bytes" (7 : Nat) "MeadowMilk$Bytes" "row" "[B") ∈ lw_all := lw_g (lw_at lw_m6 34 rfl) rfl
theorem q1295 : (Jvm.Cond.laysFinal "MeadowMilk$Bytes" "MeadowMilk$Bytes" "row" "[B") ∈ lw_all := lw_g (lw_at lw_m6 35 rfl) rfl
theorem q1296 : (Jvm.Cond.soleField "MeadowMilk$Bytes" "row") ∈ lw_all := lw_g (lw_at lw_m6 36 rfl) rfl
theorem q1297 : (Jvm.Cond.superclass "MeadowMilk$Bytes" "MeadowMilk$Sheet") ∈ lw_all := lw_g (lw_at lw_m6 37 rfl) rfl
theorem q1326 : (Jvm.Cond.selects "MeadowMilk$Bytes" ({ cls := "MeadowMilk$Sheet", name := "put", desc := "(II)V" } : Jvm.MethodName) ({ cls := "MeadowMilk$Bytes", name := "put", desc := "(II)V" } : Jvm.MethodName)) ∈ lw_all := lw_g (lw_at lw_m6 66 rfl) rfl
theorem q1327 : (Jvm.Cond.instanceMethod ({ cls := "MeadowMilk$Bytes", name := "put", desc := "(II)V" } : Jvm.MethodName)) ∈ lw_all := lw_g (lw_at lw_m6 67 rfl) rfl
theorem q1328 : (Jvm.Cond.code ({ cls := "MeadowMilk$Bytes", name := "put", desc := "(II)V" } : Jvm.MethodName) prog_2_method_4_code (3 : Nat) (Option.none : Option Jvm.ClassFile.FieldType)) ∈ lw_all := lw_g (lw_at lw_m6 68 rfl) rfl
theorem q1342 : (Jvm.Cond.selects "MeadowMilk$Bytes" ({ cls := "MeadowMilk$Sheet", name := "width", desc := "()I" } : Jvm.MethodName) ({ cls := "MeadowMilk$Bytes", name := "width", desc := "()I" } : Jvm.MethodName)) ∈ lw_all := lw_g (lw_at lw_m6 82 rfl) rfl
theorem q1343 : (Jvm.Cond.instanceMethod ({ cls := "MeadowMilk$Bytes", name := "width", desc := "()I" } : Jvm.MethodName)) ∈ lw_all := lw_g (lw_at lw_m6 83 rfl) rfl
theorem q1344 : (Jvm.Cond.code ({ cls := "MeadowMilk$Bytes", name := "width", desc := "()I" } : Jvm.MethodName) prog_2_method_5_code (1 : Nat) (Option.some Jvm.ClassFile.FieldType.int)) ∈ lw_all := lw_g (lw_at lw_m6 84 rfl) rfl
theorem q1354 : (Jvm.Cond.selects "MeadowMilk$Bytes" ({ cls := "MeadowMilk$Sheet", name := "row", desc := "()[I" } : Jvm.MethodName) ({ cls := "MeadowMilk$Sheet", name := "row", desc := "()[I" } : Jvm.MethodName)) ∈ lw_all := lw_g (lw_at lw_m6 94 rfl) rfl
theorem q1863 : (Jvm.Cond.castable "MeadowMilk$Bytes" "MeadowMilk$Sheet") ∈ lw_tbl := lw_at lw_m8 123 rfl
theorem in_X22 : ∀ w ∈ wsX220, w ∈ lw_all := lw_in wsX220 [1295] (by decide +kernel) (by decide +kernel)
/-! MeadowMilk$Shorts -/
set_option maxRecDepth 100000
def RX23 : String := "MeadowMilk$Shorts"
def TX23 : u_T := fun k => match k with
  | _ => ("MeadowMilk$Shorts", "row", "[S", true)
def tyX23 : Nat → FieldType := fun k => match k with
  | _ => .array .short
abbrev wsX230 : List Cond := u_ws RX23 TX23 1
theorem nmX23 : ∀ a, a < 1 → ∀ b, b < 1 → a ≠ b → (TX23 a).2.1 ≠ (TX23 b).2.1 := by decide +kernel
theorem tyX23_ok : ∀ k, k < 1 → parseFieldDescriptor (TX23 k).2.2.1 = some (tyX23 k) := by decide +kernel
abbrev cX23_size : ByteArray := prog_21_method_2_code
def yX23_size : MethodName := ⟨RX23, "size", "()I"⟩
def dkwX23_size_0 : List UInt8 := [42, 180, 0, 7, 190, 172]
abbrev dktX23_size_0 : List UInt8 := dkwX23_size_0 ++ []
theorem dksX23_size_0 : cX23_size.data.toList.drop 0 = dktX23_size_0 := by decide +kernel
theorem dX23_size_0 : decode cX23_size 0 = .ok (.aload_n 0, 1) := dk_42 (dk_at dksX23_size_0 0 rfl rfl)
theorem dX23_size_1 : decode cX23_size 1 = .ok (.getfield 7, 3) := dk_180 0 7 (dk_at dksX23_size_0 1 rfl rfl)
theorem dX23_size_4 : decode cX23_size 4 = .ok (.arraylength, 1) := dk_190 (dk_at dksX23_size_0 4 rfl rfl)
theorem dX23_size_5 : decode cX23_size 5 = .ok (.ireturn, 1) := dk_172 (dk_at dksX23_size_0 5 rfl rfl)
abbrev cX23_get : ByteArray := prog_21_method_3_code
def yX23_get : MethodName := ⟨RX23, "get", "(I)I"⟩
def dkwX23_get_0 : List UInt8 := [42, 180, 0, 7, 27, 53, 172]
abbrev dktX23_get_0 : List UInt8 := dkwX23_get_0 ++ []
theorem dksX23_get_0 : cX23_get.data.toList.drop 0 = dktX23_get_0 := by decide +kernel
theorem dX23_get_0 : decode cX23_get 0 = .ok (.aload_n 0, 1) := dk_42 (dk_at dksX23_get_0 0 rfl rfl)
theorem dX23_get_1 : decode cX23_get 1 = .ok (.getfield 7, 3) := dk_180 0 7 (dk_at dksX23_get_0 1 rfl rfl)
theorem dX23_get_4 : decode cX23_get 4 = .ok (.iload_n 1, 1) := dk_27 (dk_at dksX23_get_0 4 rfl rfl)
theorem dX23_get_5 : decode cX23_get 5 = .ok (.saload, 1) := dk_53 (dk_at dksX23_get_0 5 rfl rfl)
theorem dX23_get_6 : decode cX23_get 6 = .ok (.ireturn, 1) := dk_172 (dk_at dksX23_get_0 6 rfl rfl)
abbrev cX23_init : ByteArray := prog_21_method_1_code
def yX23_init : MethodName := ⟨RX23, "<init>", "(I)V"⟩
def dkwX23_init_0 : List UInt8 := [42, 183, 0, 1, 42, 27, 188, 9, 181, 0, 7, 177]
abbrev dktX23_init_0 : List UInt8 := dkwX23_init_0 ++ []
theorem dksX23_init_0 : cX23_init.data.toList.drop 0 = dktX23_init_0 := by decide +kernel
theorem dX23_init_0 : decode cX23_init 0 = .ok (.aload_n 0, 1) := dk_42 (dk_at dksX23_init_0 0 rfl rfl)
theorem dX23_init_1 : decode cX23_init 1 = .ok (.invokespecial 1, 3) := dk_183 0 1 (dk_at dksX23_init_0 1 rfl rfl)
theorem dX23_init_4 : decode cX23_init 4 = .ok (.aload_n 0, 1) := dk_42 (dk_at dksX23_init_0 4 rfl rfl)
theorem dX23_init_5 : decode cX23_init 5 = .ok (.iload_n 1, 1) := dk_27 (dk_at dksX23_init_0 5 rfl rfl)
theorem dX23_init_6 : decode cX23_init 6 = .ok (.newarray .short, 2) := dk_188_9 (dk_at dksX23_init_0 6 rfl rfl)
theorem dX23_init_8 : decode cX23_init 8 = .ok (.putfield 7, 3) := dk_181 0 7 (dk_at dksX23_init_0 8 rfl rfl)
theorem dX23_init_11 : decode cX23_init 11 = .ok (.return_, 1) := dk_177 (dk_at dksX23_init_0 11 rfl rfl)
abbrev cX23_put : ByteArray := prog_21_method_4_code
def yX23_put : MethodName := ⟨RX23, "put", "(II)V"⟩
def dkwX23_put_0 : List UInt8 := [42, 180, 0, 7, 27, 28, 147, 86, 177]
abbrev dktX23_put_0 : List UInt8 := dkwX23_put_0 ++ []
theorem dksX23_put_0 : cX23_put.data.toList.drop 0 = dktX23_put_0 := by decide +kernel
theorem dX23_put_0 : decode cX23_put 0 = .ok (.aload_n 0, 1) := dk_42 (dk_at dksX23_put_0 0 rfl rfl)
theorem dX23_put_1 : decode cX23_put 1 = .ok (.getfield 7, 3) := dk_180 0 7 (dk_at dksX23_put_0 1 rfl rfl)
theorem dX23_put_4 : decode cX23_put 4 = .ok (.iload_n 1, 1) := dk_27 (dk_at dksX23_put_0 4 rfl rfl)
theorem dX23_put_5 : decode cX23_put 5 = .ok (.iload_n 2, 1) := dk_28 (dk_at dksX23_put_0 5 rfl rfl)
theorem dX23_put_6 : decode cX23_put 6 = .ok (.i2s, 1) := dk_147 (dk_at dksX23_put_0 6 rfl rfl)
theorem dX23_put_7 : decode cX23_put 7 = .ok (.sastore, 1) := dk_86 (dk_at dksX23_put_0 7 rfl rfl)
theorem dX23_put_8 : decode cX23_put 8 = .ok (.return_, 1) := dk_177 (dk_at dksX23_put_0 8 rfl rfl)
abbrev cX23_width : ByteArray := prog_21_method_5_code
def yX23_width : MethodName := ⟨RX23, "width", "()I"⟩
theorem dX23_width_0 : decode cX23_width 0 = .ok (.bipush 16, 2) := by decide +kernel
theorem dX23_width_2 : decode cX23_width 2 = .ok (.ireturn, 1) := by decide +kernel
theorem q95 : (Jvm.Cond.initialized "MeadowMilk$Shorts") ∈ lw_all := lw_g (lw_at lw_m1 35 rfl) rfl
theorem q1037 : (Jvm.Cond.selects "MeadowMilk$Shorts" ({ cls := "MeadowMilk$Sheet", name := "size", desc := "()I" } : Jvm.MethodName) ({ cls := "MeadowMilk$Shorts", name := "size", desc := "()I" } : Jvm.MethodName)) ∈ lw_all := lw_g (lw_at lw_m5 17 rfl) rfl
theorem q1038 : (Jvm.Cond.instanceMethod ({ cls := "MeadowMilk$Shorts", name := "size", desc := "()I" } : Jvm.MethodName)) ∈ lw_all := lw_g (lw_at lw_m5 18 rfl) rfl
theorem q1039 : (Jvm.Cond.code ({ cls := "MeadowMilk$Shorts", name := "size", desc := "()I" } : Jvm.MethodName) prog_21_method_2_code (1 : Nat) (Option.some Jvm.ClassFile.FieldType.int)) ∈ lw_all := lw_g (lw_at lw_m5 19 rfl) rfl
theorem q1049 : (Jvm.Cond.selects "MeadowMilk$Shorts" ({ cls := "MeadowMilk$Sheet", name := "get", desc := "(I)I" } : Jvm.MethodName) ({ cls := "MeadowMilk$Shorts", name := "get", desc := "(I)I" } : Jvm.MethodName)) ∈ lw_all := lw_g (lw_at lw_m5 29 rfl) rfl
theorem q1050 : (Jvm.Cond.instanceMethod ({ cls := "MeadowMilk$Shorts", name := "get", desc := "(I)I" } : Jvm.MethodName)) ∈ lw_all := lw_g (lw_at lw_m5 30 rfl) rfl
theorem q1051 : (Jvm.Cond.code ({ cls := "MeadowMilk$Shorts", name := "get", desc := "(I)I" } : Jvm.MethodName) prog_21_method_3_code (2 : Nat) (Option.some Jvm.ClassFile.FieldType.int)) ∈ lw_all := lw_g (lw_at lw_m5 31 rfl) rfl
theorem q1299 : (Jvm.Cond.instantiable "MeadowMilk$Shorts" (1 : Nat)) ∈ lw_all := lw_g (lw_at lw_m6 39 rfl) rfl
theorem q1301 : (Jvm.Cond.instanceMethod ({ cls := "MeadowMilk$Shorts", name := "<init>", desc := "(I)V" } : Jvm.MethodName)) ∈ lw_all := lw_g (lw_at lw_m6 41 rfl) rfl
theorem q1302 : (Jvm.Cond.code ({ cls := "MeadowMilk$Shorts", name := "<init>", desc := "(I)V" } : Jvm.MethodName) prog_21_method_1_code (2 : Nat) (Option.none : Option Jvm.ClassFile.FieldType)) ∈ lw_all := lw_g (lw_at lw_m6 42 rfl) rfl
theorem q1303 : (Jvm.Cond.methodLinkNest "MeadowMilk$Shorts" (1 : Nat) ({ cls := "MeadowMilk$Sheet", name := "<init>", desc := "()V" } : Jvm.MethodName) "MeadowMilk") ∈ lw_tbl := lw_at lw_m6 43 rfl
theorem q1304 : (Jvm.Cond.fieldLink "MeadowMilk$Shorts" (7 : Nat) "MeadowMilk$Shorts" "row" "[S") ∈ lw_all := lw_g (lw_at lw_m6 44 rfl) rfl
theorem q1305 : (Jvm.Cond.laysFinal "MeadowMilk$Shorts" "MeadowMilk$Shorts" "row" "[S") ∈ lw_all := lw_g (lw_at lw_m6 45 rfl) rfl
theorem q1306 : (Jvm.Cond.soleField "MeadowMilk$Shorts" "row") ∈ lw_all := lw_g (lw_at lw_m6 46 rfl) rfl
theorem q1307 : (Jvm.Cond.superclass "MeadowMilk$Shorts" "MeadowMilk$Sheet") ∈ lw_all := lw_g (lw_at lw_m6 47 rfl) rfl
theorem q1332 : (Jvm.Cond.selects "MeadowMilk$Shorts" ({ cls := "MeadowMilk$Sheet", name := "put", desc := "(II)V" } : Jvm.MethodName) ({ cls := "MeadowMilk$Shorts", name := "put", desc := "(II)V" } : Jvm.MethodName)) ∈ lw_all := lw_g (lw_at lw_m6 72 rfl) rfl
theorem q1333 : (Jvm.Cond.instanceMethod ({ cls := "MeadowMilk$Shorts", name := "put", desc := "(II)V" } : Jvm.MethodName)) ∈ lw_all := lw_g (lw_at lw_m6 73 rfl) rfl
theorem q1334 : (Jvm.Cond.code ({ cls := "MeadowMilk$Shorts", name := "put", desc := "(II)V" } : Jvm.MethodName) prog_21_method_4_code (3 : Nat) (Option.none : Option Jvm.ClassFile.FieldType)) ∈ lw_all := lw_g (lw_at lw_m6 74 rfl) rfl
theorem q1348 : (Jvm.Cond.selects "MeadowMilk$Shorts" ({ cls := "MeadowMilk$Sheet", name := "width", desc := "()I" } : Jvm.MethodName) ({ cls := "MeadowMilk$Shorts", name := "width", desc := "()I" } : Jvm.MethodName)) ∈ lw_all := lw_g (lw_at lw_m6 88 rfl) rfl
theorem q1349 : (Jvm.Cond.instanceMethod ({ cls := "MeadowMilk$Shorts", name := "width", desc := "()I" } : Jvm.MethodName)) ∈ lw_all := lw_g (lw_at lw_m6 89 rfl) rfl
theorem q1350 : (Jvm.Cond.code ({ cls := "MeadowMilk$Shorts", name := "width", desc := "()I" } : Jvm.MethodName) prog_21_method_5_code (1 : Nat) (Option.some Jvm.ClassFile.FieldType.int)) ∈ lw_all := lw_g (lw_at lw_m6 90 rfl) rfl
theorem q1356 : (Jvm.Cond.selects "MeadowMilk$Shorts" ({ cls := "MeadowMilk$Sheet", name := "row", desc := "()[I" } : Jvm.MethodName) ({ cls := "MeadowMilk$Sheet", name := "row", desc := "()[I" } : Jvm.MethodName)) ∈ lw_all := lw_g (lw_at lw_m6 96 rfl) rfl
theorem q1865 : (Jvm.Cond.castable "MeadowMilk$Shorts" "MeadowMilk$Sheet") ∈ lw_tbl := lw_at lw_m8 125 rfl
theorem in_X23 : ∀ w ∈ wsX230, w ∈ lw_all := lw_in wsX230 [1305] (by decide +kernel) (by decide +kernel)
/-! MeadowMilk$Ints -/
set_option maxRecDepth 100000
def RX24 : String := "MeadowMilk$Ints"
def TX24 : u_T := fun k => match k with
  | _ => ("MeadowMilk$Ints", "row", "[I", true)
def tyX24 : Nat → FieldType := fun k => match k with
  | _ => .array .int
abbrev wsX240 : List Cond := u_ws RX24 TX24 1
theorem nmX24 : ∀ a, a < 1 → ∀ b, b < 1 → a ≠ b → (TX24 a).2.1 ≠ (TX24 b).2.1 := by decide +kernel
theorem tyX24_ok : ∀ k, k < 1 → parseFieldDescriptor (TX24 k).2.2.1 = some (tyX24 k) := by decide +kernel
abbrev cX24_size : ByteArray := prog_11_method_2_code
def yX24_size : MethodName := ⟨RX24, "size", "()I"⟩
def dkwX24_size_0 : List UInt8 := [42, 180, 0, 7, 190, 172]
abbrev dktX24_size_0 : List UInt8 := dkwX24_size_0 ++ []
theorem dksX24_size_0 : cX24_size.data.toList.drop 0 = dktX24_size_0 := by decide +kernel
theorem dX24_size_0 : decode cX24_size 0 = .ok (.aload_n 0, 1) := dk_42 (dk_at dksX24_size_0 0 rfl rfl)
theorem dX24_size_1 : decode cX24_size 1 = .ok (.getfield 7, 3) := dk_180 0 7 (dk_at dksX24_size_0 1 rfl rfl)
theorem dX24_size_4 : decode cX24_size 4 = .ok (.arraylength, 1) := dk_190 (dk_at dksX24_size_0 4 rfl rfl)
theorem dX24_size_5 : decode cX24_size 5 = .ok (.ireturn, 1) := dk_172 (dk_at dksX24_size_0 5 rfl rfl)
abbrev cX24_get : ByteArray := prog_11_method_3_code
def yX24_get : MethodName := ⟨RX24, "get", "(I)I"⟩
def dkwX24_get_0 : List UInt8 := [42, 180, 0, 7, 27, 46, 172]
abbrev dktX24_get_0 : List UInt8 := dkwX24_get_0 ++ []
theorem dksX24_get_0 : cX24_get.data.toList.drop 0 = dktX24_get_0 := by decide +kernel
theorem dX24_get_0 : decode cX24_get 0 = .ok (.aload_n 0, 1) := dk_42 (dk_at dksX24_get_0 0 rfl rfl)
theorem dX24_get_1 : decode cX24_get 1 = .ok (.getfield 7, 3) := dk_180 0 7 (dk_at dksX24_get_0 1 rfl rfl)
theorem dX24_get_4 : decode cX24_get 4 = .ok (.iload_n 1, 1) := dk_27 (dk_at dksX24_get_0 4 rfl rfl)
theorem dX24_get_5 : decode cX24_get 5 = .ok (.iaload, 1) := dk_46 (dk_at dksX24_get_0 5 rfl rfl)
theorem dX24_get_6 : decode cX24_get 6 = .ok (.ireturn, 1) := dk_172 (dk_at dksX24_get_0 6 rfl rfl)
abbrev cX24_init : ByteArray := prog_11_method_1_code
def yX24_init : MethodName := ⟨RX24, "<init>", "(I)V"⟩
def dkwX24_init_0 : List UInt8 := [42, 183, 0, 1, 42, 27, 188, 10, 181, 0, 7, 177]
abbrev dktX24_init_0 : List UInt8 := dkwX24_init_0 ++ []
theorem dksX24_init_0 : cX24_init.data.toList.drop 0 = dktX24_init_0 := by decide +kernel
theorem dX24_init_0 : decode cX24_init 0 = .ok (.aload_n 0, 1) := dk_42 (dk_at dksX24_init_0 0 rfl rfl)
theorem dX24_init_1 : decode cX24_init 1 = .ok (.invokespecial 1, 3) := dk_183 0 1 (dk_at dksX24_init_0 1 rfl rfl)
theorem dX24_init_4 : decode cX24_init 4 = .ok (.aload_n 0, 1) := dk_42 (dk_at dksX24_init_0 4 rfl rfl)
theorem dX24_init_5 : decode cX24_init 5 = .ok (.iload_n 1, 1) := dk_27 (dk_at dksX24_init_0 5 rfl rfl)
theorem dX24_init_6 : decode cX24_init 6 = .ok (.newarray .int, 2) := dk_188_10 (dk_at dksX24_init_0 6 rfl rfl)
theorem dX24_init_8 : decode cX24_init 8 = .ok (.putfield 7, 3) := dk_181 0 7 (dk_at dksX24_init_0 8 rfl rfl)
theorem dX24_init_11 : decode cX24_init 11 = .ok (.return_, 1) := dk_177 (dk_at dksX24_init_0 11 rfl rfl)
abbrev cX24_put : ByteArray := prog_11_method_4_code
def yX24_put : MethodName := ⟨RX24, "put", "(II)V"⟩
def dkwX24_put_0 : List UInt8 := [42, 180, 0, 7, 27, 28, 79, 177]
abbrev dktX24_put_0 : List UInt8 := dkwX24_put_0 ++ []
theorem dksX24_put_0 : cX24_put.data.toList.drop 0 = dktX24_put_0 := by decide +kernel
theorem dX24_put_0 : decode cX24_put 0 = .ok (.aload_n 0, 1) := dk_42 (dk_at dksX24_put_0 0 rfl rfl)
theorem dX24_put_1 : decode cX24_put 1 = .ok (.getfield 7, 3) := dk_180 0 7 (dk_at dksX24_put_0 1 rfl rfl)
theorem dX24_put_4 : decode cX24_put 4 = .ok (.iload_n 1, 1) := dk_27 (dk_at dksX24_put_0 4 rfl rfl)
theorem dX24_put_5 : decode cX24_put 5 = .ok (.iload_n 2, 1) := dk_28 (dk_at dksX24_put_0 5 rfl rfl)
theorem dX24_put_6 : decode cX24_put 6 = .ok (.iastore, 1) := dk_79 (dk_at dksX24_put_0 6 rfl rfl)
theorem dX24_put_7 : decode cX24_put 7 = .ok (.return_, 1) := dk_177 (dk_at dksX24_put_0 7 rfl rfl)
abbrev cX24_width : ByteArray := prog_11_method_5_code
def yX24_width : MethodName := ⟨RX24, "width", "()I"⟩
theorem dX24_width_0 : decode cX24_width 0 = .ok (.bipush 32, 2) := by decide +kernel
theorem dX24_width_2 : decode cX24_width 2 = .ok (.ireturn, 1) := by decide +kernel
theorem q96 : (Jvm.Cond.initialized "MeadowMilk$Ints") ∈ lw_all := lw_g (lw_at lw_m1 36 rfl) rfl
theorem q1034 : (Jvm.Cond.selects "MeadowMilk$Ints" ({ cls := "MeadowMilk$Sheet", name := "size", desc := "()I" } : Jvm.MethodName) ({ cls := "MeadowMilk$Ints", name := "size", desc := "()I" } : Jvm.MethodName)) ∈ lw_all := lw_g (lw_at lw_m5 14 rfl) rfl
theorem q1035 : (Jvm.Cond.instanceMethod ({ cls := "MeadowMilk$Ints", name := "size", desc := "()I" } : Jvm.MethodName)) ∈ lw_all := lw_g (lw_at lw_m5 15 rfl) rfl
theorem q1036 : (Jvm.Cond.code ({ cls := "MeadowMilk$Ints", name := "size", desc := "()I" } : Jvm.MethodName) prog_11_method_2_code (1 : Nat) (Option.some Jvm.ClassFile.FieldType.int)) ∈ lw_all := lw_g (lw_at lw_m5 16 rfl) rfl
theorem q1046 : (Jvm.Cond.selects "MeadowMilk$Ints" ({ cls := "MeadowMilk$Sheet", name := "get", desc := "(I)I" } : Jvm.MethodName) ({ cls := "MeadowMilk$Ints", name := "get", desc := "(I)I" } : Jvm.MethodName)) ∈ lw_all := lw_g (lw_at lw_m5 26 rfl) rfl
theorem q1047 : (Jvm.Cond.instanceMethod ({ cls := "MeadowMilk$Ints", name := "get", desc := "(I)I" } : Jvm.MethodName)) ∈ lw_all := lw_g (lw_at lw_m5 27 rfl) rfl
theorem q1048 : (Jvm.Cond.code ({ cls := "MeadowMilk$Ints", name := "get", desc := "(I)I" } : Jvm.MethodName) prog_11_method_3_code (2 : Nat) (Option.some Jvm.ClassFile.FieldType.int)) ∈ lw_all := lw_g (lw_at lw_m5 28 rfl) rfl
theorem q1310 : (Jvm.Cond.instantiable "MeadowMilk$Ints" (1 : Nat)) ∈ lw_all := lw_g (lw_at lw_m6 50 rfl) rfl
theorem q1312 : (Jvm.Cond.instanceMethod ({ cls := "MeadowMilk$Ints", name := "<init>", desc := "(I)V" } : Jvm.MethodName)) ∈ lw_all := lw_g (lw_at lw_m6 52 rfl) rfl
theorem q1313 : (Jvm.Cond.code ({ cls := "MeadowMilk$Ints", name := "<init>", desc := "(I)V" } : Jvm.MethodName) prog_11_method_1_code (2 : Nat) (Option.none : Option Jvm.ClassFile.FieldType)) ∈ lw_all := lw_g (lw_at lw_m6 53 rfl) rfl
theorem q1314 : (Jvm.Cond.methodLinkNest "MeadowMilk$Ints" (1 : Nat) ({ cls := "MeadowMilk$Sheet", name := "<init>", desc := "()V" } : Jvm.MethodName) "MeadowMilk") ∈ lw_tbl := lw_at lw_m6 54 rfl
theorem q1315 : (Jvm.Cond.fieldLink "MeadowMilk$Ints" (7 : Nat) "MeadowMilk$Ints" "row" "[I") ∈ lw_all := lw_g (lw_at lw_m6 55 rfl) rfl
theorem q1316 : (Jvm.Cond.laysFinal "MeadowMilk$Ints" "MeadowMilk$Ints" "row" "[I") ∈ lw_all := lw_g (lw_at lw_m6 56 rfl) rfl
theorem q1317 : (Jvm.Cond.soleField "MeadowMilk$Ints" "row") ∈ lw_all := lw_g (lw_at lw_m6 57 rfl) rfl
theorem q1318 : (Jvm.Cond.superclass "MeadowMilk$Ints" "MeadowMilk$Sheet") ∈ lw_all := lw_g (lw_at lw_m6 58 rfl) rfl
theorem q1329 : (Jvm.Cond.selects "MeadowMilk$Ints" ({ cls := "MeadowMilk$Sheet", name := "put", desc := "(II)V" } : Jvm.MethodName) ({ cls := "MeadowMilk$Ints", name := "put", desc := "(II)V" } : Jvm.MethodName)) ∈ lw_all := lw_g (lw_at lw_m6 69 rfl) rfl
theorem q1330 : (Jvm.Cond.instanceMethod ({ cls := "MeadowMilk$Ints", name := "put", desc := "(II)V" } : Jvm.MethodName)) ∈ lw_all := lw_g (lw_at lw_m6 70 rfl) rfl
theorem q1331 : (Jvm.Cond.code ({ cls := "MeadowMilk$Ints", name := "put", desc := "(II)V" } : Jvm.MethodName) prog_11_method_4_code (3 : Nat) (Option.none : Option Jvm.ClassFile.FieldType)) ∈ lw_all := lw_g (lw_at lw_m6 71 rfl) rfl
theorem q1345 : (Jvm.Cond.selects "MeadowMilk$Ints" ({ cls := "MeadowMilk$Sheet", name := "width", desc := "()I" } : Jvm.MethodName) ({ cls := "MeadowMilk$Ints", name := "width", desc := "()I" } : Jvm.MethodName)) ∈ lw_all := lw_g (lw_at lw_m6 85 rfl) rfl
theorem q1346 : (Jvm.Cond.instanceMethod ({ cls := "MeadowMilk$Ints", name := "width", desc := "()I" } : Jvm.MethodName)) ∈ lw_all := lw_g (lw_at lw_m6 86 rfl) rfl
theorem q1347 : (Jvm.Cond.code ({ cls := "MeadowMilk$Ints", name := "width", desc := "()I" } : Jvm.MethodName) prog_11_method_5_code (1 : Nat) (Option.some Jvm.ClassFile.FieldType.int)) ∈ lw_all := lw_g (lw_at lw_m6 87 rfl) rfl
theorem q1355 : (Jvm.Cond.selects "MeadowMilk$Ints" ({ cls := "MeadowMilk$Sheet", name := "row", desc := "()[I" } : Jvm.MethodName) ({ cls := "MeadowMilk$Sheet", name := "row", desc := "()[I" } : Jvm.MethodName)) ∈ lw_all := lw_g (lw_at lw_m6 95 rfl) rfl
theorem q1864 : (Jvm.Cond.castable "MeadowMilk$Ints" "MeadowMilk$Sheet") ∈ lw_tbl := lw_at lw_m8 124 rfl
theorem in_X24 : ∀ w ∈ wsX240, w ∈ lw_all := lw_in wsX240 [1316] (by decide +kernel) (by decide +kernel)
/-! MeadowMilk$Cow -/
set_option maxRecDepth 100000
def RX9 : String := "MeadowMilk$Cow"
def TX9 : u_T := fun k => match k with
  | 0 => ("MeadowMilk$Cow", "trace", "LMeadowMilk$Trace;", true)
  | 1 => ("MeadowMilk$Cow", "number", "I", true)
  | _ => ("MeadowMilk$Cow", "m", "I", true)
def tyX9 : Nat → FieldType := fun k => match k with
  | 0 => .object "MeadowMilk$Trace"
  | 1 => .int
  | _ => .int
abbrev wsX90 : List Cond := u_ws RX9 TX9 3
theorem nmX9 : ∀ a, a < 3 → ∀ b, b < 3 → a ≠ b → (TX9 a).2.1 ≠ (TX9 b).2.1 := by decide +kernel
theorem tyX9_ok : ∀ k, k < 3 → parseFieldDescriptor (TX9 k).2.2.1 = some (tyX9 k) := by decide +kernel
abbrev cX9_init : ByteArray := prog_3_method_1_code
def yX9_init : MethodName := ⟨RX9, "<init>", "(LMeadowMilk$Trace;II)V"⟩
def dkwX9_init_0 : List UInt8 := [42, 183, 0, 3, 42, 43, 181, 0, 9, 42, 28, 181, 0, 15, 42, 29, 181, 0, 19, 177]
abbrev dktX9_init_0 : List UInt8 := dkwX9_init_0 ++ []
theorem dksX9_init_0 : cX9_init.data.toList.drop 0 = dktX9_init_0 := by decide +kernel
theorem dX9_init_0 : decode cX9_init 0 = .ok (.aload_n 0, 1) := dk_42 (dk_at dksX9_init_0 0 rfl rfl)
theorem dX9_init_1 : decode cX9_init 1 = .ok (.invokespecial 3, 3) := dk_183 0 3 (dk_at dksX9_init_0 1 rfl rfl)
theorem dX9_init_4 : decode cX9_init 4 = .ok (.aload_n 0, 1) := dk_42 (dk_at dksX9_init_0 4 rfl rfl)
theorem dX9_init_5 : decode cX9_init 5 = .ok (.aload_n 1, 1) := dk_43 (dk_at dksX9_init_0 5 rfl rfl)
theorem dX9_init_6 : decode cX9_init 6 = .ok (.putfield 9, 3) := dk_181 0 9 (dk_at dksX9_init_0 6 rfl rfl)
theorem dX9_init_9 : decode cX9_init 9 = .ok (.aload_n 0, 1) := dk_42 (dk_at dksX9_init_0 9 rfl rfl)
theorem dX9_init_10 : decode cX9_init 10 = .ok (.iload_n 2, 1) := dk_28 (dk_at dksX9_init_0 10 rfl rfl)
theorem dX9_init_11 : decode cX9_init 11 = .ok (.putfield 15, 3) := dk_181 0 15 (dk_at dksX9_init_0 11 rfl rfl)
theorem dX9_init_14 : decode cX9_init 14 = .ok (.aload_n 0, 1) := dk_42 (dk_at dksX9_init_0 14 rfl rfl)
theorem dX9_init_15 : decode cX9_init 15 = .ok (.iload_n 3, 1) := dk_29 (dk_at dksX9_init_0 15 rfl rfl)
theorem dX9_init_16 : decode cX9_init 16 = .ok (.putfield 19, 3) := dk_181 0 19 (dk_at dksX9_init_0 16 rfl rfl)
theorem dX9_init_19 : decode cX9_init 19 = .ok (.return_, 1) := dk_177 (dk_at dksX9_init_0 19 rfl rfl)
abbrev cX9_kind : ByteArray := prog_3_method_2_code
def yX9_kind : MethodName := ⟨RX9, "kind", "()I"⟩
theorem dX9_kind_0 : decode cX9_kind 0 = .ok (.iconst 0, 1) := by decide +kernel
theorem dX9_kind_1 : decode cX9_kind 1 = .ok (.ireturn, 1) := by decide +kernel
abbrev cX9_eaten : ByteArray := prog_3_method_5_code
def yX9_eaten : MethodName := ⟨RX9, "eaten", "()I"⟩
theorem dX9_eaten_0 : decode cX9_eaten 0 = .ok (.bipush 10, 2) := by decide +kernel
theorem dX9_eaten_2 : decode cX9_eaten 2 = .ok (.ireturn, 1) := by decide +kernel
abbrev cX9_span : ByteArray := prog_3_method_6_code
def yX9_span : MethodName := ⟨RX9, "span", "()I"⟩
theorem dX9_span_0 : decode cX9_span 0 = .ok (.bipush 6, 2) := by decide +kernel
theorem dX9_span_2 : decode cX9_span 2 = .ok (.ireturn, 1) := by decide +kernel
abbrev cX9_wanted : ByteArray := prog_3_method_4_code
def yX9_wanted : MethodName := ⟨RX9, "wanted", "(IIZZ)I"⟩
theorem dX9_wanted_0 : decode cX9_wanted 0 = .ok (.iload_n 1, 1) := by decide +kernel
theorem dX9_wanted_1 : decode cX9_wanted 1 = .ok (.ireturn, 1) := by decide +kernel
abbrev cX9_isOf : ByteArray := prog_3_method_3_code
def yX9_isOf : MethodName := ⟨RX9, "isOf", "(I)Z"⟩
def dkwX9_isOf_0 : List UInt8 := [27, 154, 0, 7, 4, 167, 0, 4, 3, 172]
abbrev dktX9_isOf_0 : List UInt8 := dkwX9_isOf_0 ++ []
theorem dksX9_isOf_0 : cX9_isOf.data.toList.drop 0 = dktX9_isOf_0 := by decide +kernel
theorem dX9_isOf_0 : decode cX9_isOf 0 = .ok (.iload_n 1, 1) := dk_27 (dk_at dksX9_isOf_0 0 rfl rfl)
theorem dX9_isOf_1 : decode cX9_isOf 1 = .ok (.ifCond .ne 7, 3) := dk_154 0 7 (dk_at dksX9_isOf_0 1 rfl rfl)
theorem dX9_isOf_4 : decode cX9_isOf 4 = .ok (.iconst 1, 1) := dk_4 (dk_at dksX9_isOf_0 4 rfl rfl)
theorem dX9_isOf_5 : decode cX9_isOf 5 = .ok (.goto 4, 3) := dk_167 0 4 (dk_at dksX9_isOf_0 5 rfl rfl)
theorem dX9_isOf_8 : decode cX9_isOf 8 = .ok (.iconst 0, 1) := dk_3 (dk_at dksX9_isOf_0 8 rfl rfl)
theorem dX9_isOf_9 : decode cX9_isOf 9 = .ok (.ireturn, 1) := dk_172 (dk_at dksX9_isOf_0 9 rfl rfl)
abbrev cX9_wants : ByteArray := prog_3_method_7_code
def yX9_wants : MethodName := ⟨RX9, "wants", "(I)I"⟩
def dkwX9_wants_0 : List UInt8 := [42, 180, 0, 9, 16, 10, 182, 0, 22, 27, 42, 180, 0, 15, 96, 172]
abbrev dktX9_wants_0 : List UInt8 := dkwX9_wants_0 ++ []
theorem dksX9_wants_0 : cX9_wants.data.toList.drop 0 = dktX9_wants_0 := by decide +kernel
theorem dX9_wants_0 : decode cX9_wants 0 = .ok (.aload_n 0, 1) := dk_42 (dk_at dksX9_wants_0 0 rfl rfl)
theorem dX9_wants_1 : decode cX9_wants 1 = .ok (.getfield 9, 3) := dk_180 0 9 (dk_at dksX9_wants_0 1 rfl rfl)
theorem dX9_wants_4 : decode cX9_wants 4 = .ok (.bipush 10, 2) := dk_16 10 (dk_at dksX9_wants_0 4 rfl rfl)
theorem dX9_wants_6 : decode cX9_wants 6 = .ok (.invokevirtual 22, 3) := dk_182 0 22 (dk_at dksX9_wants_0 6 rfl rfl)
theorem dX9_wants_9 : decode cX9_wants 9 = .ok (.iload_n 1, 1) := dk_27 (dk_at dksX9_wants_0 9 rfl rfl)
theorem dX9_wants_10 : decode cX9_wants 10 = .ok (.aload_n 0, 1) := dk_42 (dk_at dksX9_wants_0 10 rfl rfl)
theorem dX9_wants_11 : decode cX9_wants 11 = .ok (.getfield 15, 3) := dk_180 0 15 (dk_at dksX9_wants_0 11 rfl rfl)
theorem dX9_wants_14 : decode cX9_wants 14 = .ok (.iadd, 1) := dk_96 (dk_at dksX9_wants_0 14 rfl rfl)
theorem dX9_wants_15 : decode cX9_wants 15 = .ok (.ireturn, 1) := dk_172 (dk_at dksX9_wants_0 15 rfl rfl)
abbrev cX9_eats : ByteArray := prog_3_method_8_code
def yX9_eats : MethodName := ⟨RX9, "eats", "(I)I"⟩
def dkwX9_eats_0 : List UInt8 := [42, 180, 0, 9, 16, 11, 182, 0, 22, 42, 27, 182, 0, 28, 5, 104, 172]
abbrev dktX9_eats_0 : List UInt8 := dkwX9_eats_0 ++ []
theorem dksX9_eats_0 : cX9_eats.data.toList.drop 0 = dktX9_eats_0 := by decide +kernel
theorem dX9_eats_0 : decode cX9_eats 0 = .ok (.aload_n 0, 1) := dk_42 (dk_at dksX9_eats_0 0 rfl rfl)
theorem dX9_eats_1 : decode cX9_eats 1 = .ok (.getfield 9, 3) := dk_180 0 9 (dk_at dksX9_eats_0 1 rfl rfl)
theorem dX9_eats_4 : decode cX9_eats 4 = .ok (.bipush 11, 2) := dk_16 11 (dk_at dksX9_eats_0 4 rfl rfl)
theorem dX9_eats_6 : decode cX9_eats 6 = .ok (.invokevirtual 22, 3) := dk_182 0 22 (dk_at dksX9_eats_0 6 rfl rfl)
theorem dX9_eats_9 : decode cX9_eats 9 = .ok (.aload_n 0, 1) := dk_42 (dk_at dksX9_eats_0 9 rfl rfl)
theorem dX9_eats_10 : decode cX9_eats 10 = .ok (.iload_n 1, 1) := dk_27 (dk_at dksX9_eats_0 10 rfl rfl)
theorem dX9_eats_11 : decode cX9_eats 11 = .ok (.invokevirtual 28, 3) := dk_182 0 28 (dk_at dksX9_eats_0 11 rfl rfl)
theorem dX9_eats_14 : decode cX9_eats 14 = .ok (.iconst 2, 1) := dk_5 (dk_at dksX9_eats_0 14 rfl rfl)
theorem dX9_eats_15 : decode cX9_eats 15 = .ok (.imul, 1) := dk_104 (dk_at dksX9_eats_0 15 rfl rfl)
theorem dX9_eats_16 : decode cX9_eats 16 = .ok (.ireturn, 1) := dk_172 (dk_at dksX9_eats_0 16 rfl rfl)
abbrev cX9_knows : ByteArray := prog_3_method_9_code
def yX9_knows : MethodName := ⟨RX9, "knows", "(I)I"⟩
def dkwX9_knows_0 : List UInt8 := [42, 180, 0, 9, 16, 12, 182, 0, 22, 27, 42, 180, 0, 19, 100, 172]
abbrev dktX9_knows_0 : List UInt8 := dkwX9_knows_0 ++ []
theorem dksX9_knows_0 : cX9_knows.data.toList.drop 0 = dktX9_knows_0 := by decide +kernel
theorem dX9_knows_0 : decode cX9_knows 0 = .ok (.aload_n 0, 1) := dk_42 (dk_at dksX9_knows_0 0 rfl rfl)
theorem dX9_knows_1 : decode cX9_knows 1 = .ok (.getfield 9, 3) := dk_180 0 9 (dk_at dksX9_knows_0 1 rfl rfl)
theorem dX9_knows_4 : decode cX9_knows 4 = .ok (.bipush 12, 2) := dk_16 12 (dk_at dksX9_knows_0 4 rfl rfl)
theorem dX9_knows_6 : decode cX9_knows 6 = .ok (.invokevirtual 22, 3) := dk_182 0 22 (dk_at dksX9_knows_0 6 rfl rfl)
theorem dX9_knows_9 : decode cX9_knows 9 = .ok (.iload_n 1, 1) := dk_27 (dk_at dksX9_knows_0 9 rfl rfl)
theorem dX9_knows_10 : decode cX9_knows 10 = .ok (.aload_n 0, 1) := dk_42 (dk_at dksX9_knows_0 10 rfl rfl)
theorem dX9_knows_11 : decode cX9_knows 11 = .ok (.getfield 19, 3) := dk_180 0 19 (dk_at dksX9_knows_0 11 rfl rfl)
theorem dX9_knows_14 : decode cX9_knows 14 = .ok (.isub, 1) := dk_100 (dk_at dksX9_knows_0 14 rfl rfl)
theorem dX9_knows_15 : decode cX9_knows 15 = .ok (.ireturn, 1) := dk_172 (dk_at dksX9_knows_0 15 rfl rfl)
abbrev cX9_tells : ByteArray := prog_3_method_10_code
def yX9_tells : MethodName := ⟨RX9, "tells", "(I)I"⟩
def dkwX9_tells_0 : List UInt8 := [42, 180, 0, 9, 16, 13, 182, 0, 22, 42, 27, 182, 0, 32, 61, 28, 42, 27, 182, 0, 35, 130, 172]
abbrev dktX9_tells_0 : List UInt8 := dkwX9_tells_0 ++ []
theorem dksX9_tells_0 : cX9_tells.data.toList.drop 0 = dktX9_tells_0 := by decide +kernel
theorem dX9_tells_0 : decode cX9_tells 0 = .ok (.aload_n 0, 1) := dk_42 (dk_at dksX9_tells_0 0 rfl rfl)
theorem dX9_tells_1 : decode cX9_tells 1 = .ok (.getfield 9, 3) := dk_180 0 9 (dk_at dksX9_tells_0 1 rfl rfl)
theorem dX9_tells_4 : decode cX9_tells 4 = .ok (.bipush 13, 2) := dk_16 13 (dk_at dksX9_tells_0 4 rfl rfl)
theorem dX9_tells_6 : decode cX9_tells 6 = .ok (.invokevirtual 22, 3) := dk_182 0 22 (dk_at dksX9_tells_0 6 rfl rfl)
theorem dX9_tells_9 : decode cX9_tells 9 = .ok (.aload_n 0, 1) := dk_42 (dk_at dksX9_tells_0 9 rfl rfl)
theorem dX9_tells_10 : decode cX9_tells 10 = .ok (.iload_n 1, 1) := dk_27 (dk_at dksX9_tells_0 10 rfl rfl)
theorem dX9_tells_11 : decode cX9_tells 11 = .ok (.invokevirtual 32, 3) := dk_182 0 32 (dk_at dksX9_tells_0 11 rfl rfl)
theorem dX9_tells_14 : decode cX9_tells 14 = .ok (.istore_n 2, 1) := dk_61 (dk_at dksX9_tells_0 14 rfl rfl)
theorem dX9_tells_15 : decode cX9_tells 15 = .ok (.iload_n 2, 1) := dk_28 (dk_at dksX9_tells_0 15 rfl rfl)
theorem dX9_tells_16 : decode cX9_tells 16 = .ok (.aload_n 0, 1) := dk_42 (dk_at dksX9_tells_0 16 rfl rfl)
theorem dX9_tells_17 : decode cX9_tells 17 = .ok (.iload_n 1, 1) := dk_27 (dk_at dksX9_tells_0 17 rfl rfl)
theorem dX9_tells_18 : decode cX9_tells 18 = .ok (.invokevirtual 35, 3) := dk_182 0 35 (dk_at dksX9_tells_0 18 rfl rfl)
theorem dX9_tells_21 : decode cX9_tells 21 = .ok (.ixor, 1) := dk_130 (dk_at dksX9_tells_0 21 rfl rfl)
theorem dX9_tells_22 : decode cX9_tells 22 = .ok (.ireturn, 1) := dk_172 (dk_at dksX9_tells_0 22 rfl rfl)
theorem q74 : (Jvm.Cond.initialized "MeadowMilk$Cow") ∈ lw_all := lw_g (lw_at lw_m1 14 rfl) rfl
theorem q411 : (Jvm.Cond.instanceMethod ({ cls := "MeadowMilk$Cow", name := "<init>", desc := "(LMeadowMilk$Trace;II)V" } : Jvm.MethodName)) ∈ lw_all := lw_g (lw_at lw_m2 111 rfl) rfl
theorem q412 : (Jvm.Cond.code ({ cls := "MeadowMilk$Cow", name := "<init>", desc := "(LMeadowMilk$Trace;II)V" } : Jvm.MethodName) prog_3_method_1_code (4 : Nat) (Option.none : Option Jvm.ClassFile.FieldType)) ∈ lw_all := lw_g (lw_at lw_m2 112 rfl) rfl
theorem q413 : (Jvm.Cond.methodLink "MeadowMilk$Cow" (3 : Nat) ({ cls := "java/lang/Object", name := "<init>", desc := "()V" } : Jvm.MethodName)) ∈ lw_all := lw_g (lw_at lw_m2 113 rfl) rfl
theorem q414 : (Jvm.Cond.fieldLink "MeadowMilk$Cow" (9 : Nat) "MeadowMilk$Cow" "trace" "LMeadowMilk$Trace;") ∈ lw_all := lw_g (lw_at lw_m2 114 rfl) rfl
theorem q427 : (Jvm.Cond.fieldLink "MeadowMilk$Cow" (15 : Nat) "MeadowMilk$Cow" "number" "I") ∈ lw_all := lw_g (lw_at lw_m2 127 rfl) rfl
theorem q430 : (Jvm.Cond.fieldLink "MeadowMilk$Cow" (19 : Nat) "MeadowMilk$Cow" "m" "I") ∈ lw_all := lw_g (lw_at lw_m2 130 rfl) rfl
theorem q441 : (Jvm.Cond.soleField "MeadowMilk$Cow" "trace") ∈ lw_all := lw_g (lw_at lw_m2 141 rfl) rfl
theorem q443 : (Jvm.Cond.soleField "MeadowMilk$Cow" "number") ∈ lw_all := lw_g (lw_at lw_m2 143 rfl) rfl
theorem q445 : (Jvm.Cond.soleField "MeadowMilk$Cow" "m") ∈ lw_all := lw_g (lw_at lw_m2 145 rfl) rfl
theorem q498 : (Jvm.Cond.instantiable "MeadowMilk$Cow" (3 : Nat)) ∈ lw_all := lw_g (lw_at lw_m2 198 rfl) rfl
theorem q500 : (Jvm.Cond.laysFinal "MeadowMilk$Cow" "MeadowMilk$Cow" "trace" "LMeadowMilk$Trace;") ∈ lw_all := lw_g (lw_at lw_m2 200 rfl) rfl
theorem q501 : (Jvm.Cond.laysFinal "MeadowMilk$Cow" "MeadowMilk$Cow" "number" "I") ∈ lw_all := lw_g (lw_at lw_m2 201 rfl) rfl
theorem q502 : (Jvm.Cond.laysFinal "MeadowMilk$Cow" "MeadowMilk$Cow" "m" "I") ∈ lw_all := lw_g (lw_at lw_m2 202 rfl) rfl
theorem q503 : (Jvm.Cond.superclass "MeadowMilk$Cow" "java/lang/Object") ∈ lw_all := lw_g (lw_at lw_m2 203 rfl) rfl
theorem q517 : (Jvm.Cond.instanceMethod ({ cls := "MeadowMilk$Cow", name := "kind", desc := "()I" } : Jvm.MethodName)) ∈ lw_all := lw_g (lw_at lw_m2 217 rfl) rfl
theorem q518 : (Jvm.Cond.selects "MeadowMilk$Cow" ({ cls := "MeadowMilk$Cow", name := "kind", desc := "()I" } : Jvm.MethodName) ({ cls := "MeadowMilk$Cow", name := "kind", desc := "()I" } : Jvm.MethodName)) ∈ lw_all := lw_g (lw_at lw_m2 218 rfl) rfl
theorem q519 : (Jvm.Cond.sameMethod "MeadowMilk$Cow" "MeadowMilk$Cow" "kind" "()I") ∈ lw_all := lw_g (lw_at lw_m2 219 rfl) rfl
theorem q538 : (Jvm.Cond.code ({ cls := "MeadowMilk$Cow", name := "kind", desc := "()I" } : Jvm.MethodName) prog_3_method_2_code (1 : Nat) (Option.some Jvm.ClassFile.FieldType.int)) ∈ lw_all := lw_g (lw_at lw_m2 238 rfl) rfl
theorem q540 : (Jvm.Cond.instanceMethod ({ cls := "MeadowMilk$Cow", name := "eaten", desc := "()I" } : Jvm.MethodName)) ∈ lw_all := lw_g (lw_at lw_m3 0 rfl) rfl
theorem q541 : (Jvm.Cond.selects "MeadowMilk$Cow" ({ cls := "MeadowMilk$Cow", name := "eaten", desc := "()I" } : Jvm.MethodName) ({ cls := "MeadowMilk$Cow", name := "eaten", desc := "()I" } : Jvm.MethodName)) ∈ lw_all := lw_g (lw_at lw_m3 1 rfl) rfl
theorem q542 : (Jvm.Cond.sameMethod "MeadowMilk$Cow" "MeadowMilk$Cow" "eaten" "()I") ∈ lw_all := lw_g (lw_at lw_m3 2 rfl) rfl
theorem q556 : (Jvm.Cond.code ({ cls := "MeadowMilk$Cow", name := "eaten", desc := "()I" } : Jvm.MethodName) prog_3_method_5_code (1 : Nat) (Option.some Jvm.ClassFile.FieldType.int)) ∈ lw_all := lw_g (lw_at lw_m3 16 rfl) rfl
theorem q558 : (Jvm.Cond.instanceMethod ({ cls := "MeadowMilk$Cow", name := "span", desc := "()I" } : Jvm.MethodName)) ∈ lw_all := lw_g (lw_at lw_m3 18 rfl) rfl
theorem q559 : (Jvm.Cond.selects "MeadowMilk$Cow" ({ cls := "MeadowMilk$Cow", name := "span", desc := "()I" } : Jvm.MethodName) ({ cls := "MeadowMilk$Cow", name := "span", desc := "()I" } : Jvm.MethodName)) ∈ lw_all := lw_g (lw_at lw_m3 19 rfl) rfl
theorem q560 : (Jvm.Cond.sameMethod "MeadowMilk$Cow" "MeadowMilk$Cow" "span" "()I") ∈ lw_all := lw_g (lw_at lw_m3 20 rfl) rfl
theorem q573 : (Jvm.Cond.code ({ cls := "MeadowMilk$Cow", name := "span", desc := "()I" } : Jvm.MethodName) prog_3_method_6_code (1 : Nat) (Option.some Jvm.ClassFile.FieldType.int)) ∈ lw_all := lw_g (lw_at lw_m3 33 rfl) rfl
theorem q594 : (Jvm.Cond.instanceMethod ({ cls := "MeadowMilk$Cow", name := "wanted", desc := "(IIZZ)I" } : Jvm.MethodName)) ∈ lw_all := lw_g (lw_at lw_m3 54 rfl) rfl
theorem q595 : (Jvm.Cond.selects "MeadowMilk$Cow" ({ cls := "MeadowMilk$Cow", name := "wanted", desc := "(IIZZ)I" } : Jvm.MethodName) ({ cls := "MeadowMilk$Cow", name := "wanted", desc := "(IIZZ)I" } : Jvm.MethodName)) ∈ lw_all := lw_g (lw_at lw_m3 55 rfl) rfl
theorem q596 : (Jvm.Cond.sameMethod "MeadowMilk$Cow" "MeadowMilk$Cow" "wanted" "(IIZZ)I") ∈ lw_all := lw_g (lw_at lw_m3 56 rfl) rfl
theorem q621 : (Jvm.Cond.code ({ cls := "MeadowMilk$Cow", name := "wanted", desc := "(IIZZ)I" } : Jvm.MethodName) prog_3_method_4_code (5 : Nat) (Option.some Jvm.ClassFile.FieldType.int)) ∈ lw_all := lw_g (lw_at lw_m3 81 rfl) rfl
theorem q636 : (Jvm.Cond.instanceMethod ({ cls := "MeadowMilk$Cow", name := "isOf", desc := "(I)Z" } : Jvm.MethodName)) ∈ lw_all := lw_g (lw_at lw_m3 96 rfl) rfl
theorem q637 : (Jvm.Cond.selects "MeadowMilk$Cow" ({ cls := "MeadowMilk$Cow", name := "isOf", desc := "(I)Z" } : Jvm.MethodName) ({ cls := "MeadowMilk$Cow", name := "isOf", desc := "(I)Z" } : Jvm.MethodName)) ∈ lw_all := lw_g (lw_at lw_m3 97 rfl) rfl
theorem q638 : (Jvm.Cond.sameMethod "MeadowMilk$Cow" "MeadowMilk$Cow" "isOf" "(I)Z") ∈ lw_all := lw_g (lw_at lw_m3 98 rfl) rfl
theorem q663 : (Jvm.Cond.code ({ cls := "MeadowMilk$Cow", name := "isOf", desc := "(I)Z" } : Jvm.MethodName) prog_3_method_3_code (2 : Nat) (Option.some Jvm.ClassFile.FieldType.boolean)) ∈ lw_all := lw_g (lw_at lw_m3 123 rfl) rfl
theorem q1098 : (Jvm.Cond.castable "MeadowMilk$Cow" "MeadowMilk$Wants") ∈ lw_tbl := lw_at lw_m5 78 rfl
theorem q1099 : (Jvm.Cond.selects "MeadowMilk$Cow" ({ cls := "MeadowMilk$Wants", name := "wants", desc := "(I)I" } : Jvm.MethodName) ({ cls := "MeadowMilk$Cow", name := "wants", desc := "(I)I" } : Jvm.MethodName)) ∈ lw_all := lw_g (lw_at lw_m5 79 rfl) rfl
theorem q1100 : (Jvm.Cond.unhidden "MeadowMilk$Cow" "wants" "(I)I") ∈ lw_tbl := lw_at lw_m5 80 rfl
theorem q1101 : (Jvm.Cond.instanceMethod ({ cls := "MeadowMilk$Cow", name := "wants", desc := "(I)I" } : Jvm.MethodName)) ∈ lw_all := lw_g (lw_at lw_m5 81 rfl) rfl
theorem q1102 : (Jvm.Cond.publicMethod ({ cls := "MeadowMilk$Cow", name := "wants", desc := "(I)I" } : Jvm.MethodName)) ∈ lw_tbl := lw_at lw_m5 82 rfl
theorem q1103 : (Jvm.Cond.code ({ cls := "MeadowMilk$Cow", name := "wants", desc := "(I)I" } : Jvm.MethodName) prog_3_method_7_code (2 : Nat) (Option.some Jvm.ClassFile.FieldType.int)) ∈ lw_all := lw_g (lw_at lw_m5 83 rfl) rfl
theorem q1104 : (Jvm.Cond.methodLink "MeadowMilk$Cow" (22 : Nat) ({ cls := "MeadowMilk$Trace", name := "begins", desc := "(I)V" } : Jvm.MethodName)) ∈ lw_all := lw_g (lw_at lw_m5 84 rfl) rfl
theorem q1135 : (Jvm.Cond.castable "MeadowMilk$Cow" "MeadowMilk$Eats") ∈ lw_tbl := lw_at lw_m5 115 rfl
theorem q1136 : (Jvm.Cond.selects "MeadowMilk$Cow" ({ cls := "MeadowMilk$Eats", name := "eats", desc := "(I)I" } : Jvm.MethodName) ({ cls := "MeadowMilk$Cow", name := "eats", desc := "(I)I" } : Jvm.MethodName)) ∈ lw_all := lw_g (lw_at lw_m5 116 rfl) rfl
theorem q1137 : (Jvm.Cond.unhidden "MeadowMilk$Cow" "eats" "(I)I") ∈ lw_tbl := lw_at lw_m5 117 rfl
theorem q1138 : (Jvm.Cond.instanceMethod ({ cls := "MeadowMilk$Cow", name := "eats", desc := "(I)I" } : Jvm.MethodName)) ∈ lw_all := lw_g (lw_at lw_m5 118 rfl) rfl
theorem q1139 : (Jvm.Cond.publicMethod ({ cls := "MeadowMilk$Cow", name := "eats", desc := "(I)I" } : Jvm.MethodName)) ∈ lw_tbl := lw_at lw_m5 119 rfl
theorem q1140 : (Jvm.Cond.code ({ cls := "MeadowMilk$Cow", name := "eats", desc := "(I)I" } : Jvm.MethodName) prog_3_method_8_code (2 : Nat) (Option.some Jvm.ClassFile.FieldType.int)) ∈ lw_all := lw_g (lw_at lw_m5 120 rfl) rfl
theorem q1141 : (Jvm.Cond.methodLink "MeadowMilk$Cow" (28 : Nat) ({ cls := "MeadowMilk$Cow", name := "wants", desc := "(I)I" } : Jvm.MethodName)) ∈ lw_all := lw_g (lw_at lw_m5 121 rfl) rfl
theorem q1152 : (Jvm.Cond.declares ({ cls := "MeadowMilk$Cow", name := "knows", desc := "(I)I" } : Jvm.MethodName)) ∈ lw_tbl := lw_at lw_m5 132 rfl
theorem q1155 : (Jvm.Cond.instanceMethod ({ cls := "MeadowMilk$Cow", name := "knows", desc := "(I)I" } : Jvm.MethodName)) ∈ lw_all := lw_g (lw_at lw_m5 135 rfl) rfl
theorem q1156 : (Jvm.Cond.code ({ cls := "MeadowMilk$Cow", name := "knows", desc := "(I)I" } : Jvm.MethodName) prog_3_method_9_code (2 : Nat) (Option.some Jvm.ClassFile.FieldType.int)) ∈ lw_all := lw_g (lw_at lw_m5 136 rfl) rfl
theorem q1181 : (Jvm.Cond.castable "MeadowMilk$Cow" "MeadowMilk$Knows") ∈ lw_tbl := lw_at lw_m5 161 rfl
theorem q1182 : (Jvm.Cond.selects "MeadowMilk$Cow" ({ cls := "MeadowMilk$Knows", name := "knows", desc := "(I)I" } : Jvm.MethodName) ({ cls := "MeadowMilk$Cow", name := "knows", desc := "(I)I" } : Jvm.MethodName)) ∈ lw_all := lw_g (lw_at lw_m5 162 rfl) rfl
theorem q1183 : (Jvm.Cond.unhidden "MeadowMilk$Cow" "knows" "(I)I") ∈ lw_tbl := lw_at lw_m5 163 rfl
theorem q1184 : (Jvm.Cond.publicMethod ({ cls := "MeadowMilk$Cow", name := "knows", desc := "(I)I" } : Jvm.MethodName)) ∈ lw_tbl := lw_at lw_m5 164 rfl
theorem q1217 : (Jvm.Cond.castable "MeadowMilk$Cow" "MeadowMilk$Tells") ∈ lw_tbl := lw_at lw_m5 197 rfl
theorem q1218 : (Jvm.Cond.selects "MeadowMilk$Cow" ({ cls := "MeadowMilk$Tells", name := "tells", desc := "(I)I" } : Jvm.MethodName) ({ cls := "MeadowMilk$Cow", name := "tells", desc := "(I)I" } : Jvm.MethodName)) ∈ lw_all := lw_g (lw_at lw_m5 198 rfl) rfl
theorem q1219 : (Jvm.Cond.unhidden "MeadowMilk$Cow" "tells" "(I)I") ∈ lw_tbl := lw_at lw_m5 199 rfl
theorem q1220 : (Jvm.Cond.instanceMethod ({ cls := "MeadowMilk$Cow", name := "tells", desc := "(I)I" } : Jvm.MethodName)) ∈ lw_all := lw_g (lw_at lw_m5 200 rfl) rfl
theorem q1221 : (Jvm.Cond.publicMethod ({ cls := "MeadowMilk$Cow", name := "tells", desc := "(I)I" } : Jvm.MethodName)) ∈ lw_tbl := lw_at lw_m5 201 rfl
theorem q1222 : (Jvm.Cond.code ({ cls := "MeadowMilk$Cow", name := "tells", desc := "(I)I" } : Jvm.MethodName) prog_3_method_10_code (3 : Nat) (Option.some Jvm.ClassFile.FieldType.int)) ∈ lw_all := lw_g (lw_at lw_m5 202 rfl) rfl
theorem q1223 : (Jvm.Cond.methodLink "MeadowMilk$Cow" (32 : Nat) ({ cls := "MeadowMilk$Cow", name := "eats", desc := "(I)I" } : Jvm.MethodName)) ∈ lw_all := lw_g (lw_at lw_m5 203 rfl) rfl
theorem q1224 : (Jvm.Cond.methodLink "MeadowMilk$Cow" (35 : Nat) ({ cls := "MeadowMilk$Cow", name := "knows", desc := "(I)I" } : Jvm.MethodName)) ∈ lw_all := lw_g (lw_at lw_m5 204 rfl) rfl
theorem q1242 : (Jvm.Cond.declares ({ cls := "MeadowMilk$Cow", name := "eats", desc := "(I)I" } : Jvm.MethodName)) ∈ lw_tbl := lw_at lw_m5 222 rfl
theorem q1246 : (Jvm.Cond.declares ({ cls := "MeadowMilk$Cow", name := "tells", desc := "(I)I" } : Jvm.MethodName)) ∈ lw_tbl := lw_at lw_m5 226 rfl
theorem q1837 : (Jvm.Cond.sameMethod "MeadowMilk$Cow" "MeadowMilk$Cow" "wants" "(I)I") ∈ lw_all := lw_g (lw_at lw_m8 97 rfl) rfl
theorem q1838 : (Jvm.Cond.selects "MeadowMilk$Cow" ({ cls := "MeadowMilk$Cow", name := "wants", desc := "(I)I" } : Jvm.MethodName) ({ cls := "MeadowMilk$Cow", name := "wants", desc := "(I)I" } : Jvm.MethodName)) ∈ lw_all := lw_g (lw_at lw_m8 98 rfl) rfl
theorem q1845 : (Jvm.Cond.sameMethod "MeadowMilk$Cow" "MeadowMilk$Cow" "eats" "(I)I") ∈ lw_all := lw_g (lw_at lw_m8 105 rfl) rfl
theorem q1847 : (Jvm.Cond.sameMethod "MeadowMilk$Cow" "MeadowMilk$Cow" "knows" "(I)I") ∈ lw_all := lw_g (lw_at lw_m8 107 rfl) rfl
theorem q1849 : (Jvm.Cond.selects "MeadowMilk$Cow" ({ cls := "MeadowMilk$Cow", name := "eats", desc := "(I)I" } : Jvm.MethodName) ({ cls := "MeadowMilk$Cow", name := "eats", desc := "(I)I" } : Jvm.MethodName)) ∈ lw_all := lw_g (lw_at lw_m8 109 rfl) rfl
theorem q1856 : (Jvm.Cond.selects "MeadowMilk$Cow" ({ cls := "MeadowMilk$Cow", name := "knows", desc := "(I)I" } : Jvm.MethodName) ({ cls := "MeadowMilk$Cow", name := "knows", desc := "(I)I" } : Jvm.MethodName)) ∈ lw_all := lw_g (lw_at lw_m8 116 rfl) rfl
theorem in_X9 : ∀ w ∈ wsX90, w ∈ lw_all := lw_in wsX90 [500, 501, 502] (by decide +kernel) (by decide +kernel)
/-! MeadowMilk$Goat -/
set_option maxRecDepth 100000
def RX10 : String := "MeadowMilk$Goat"
def TX10 : u_T := fun k => match k with
  | 0 => ("MeadowMilk$Cow", "trace", "LMeadowMilk$Trace;", true)
  | 1 => ("MeadowMilk$Cow", "number", "I", true)
  | _ => ("MeadowMilk$Cow", "m", "I", true)
def tyX10 : Nat → FieldType := fun k => match k with
  | 0 => .object "MeadowMilk$Trace"
  | 1 => .int
  | _ => .int
abbrev wsX100 : List Cond := u_ws RX10 TX10 3
theorem nmX10 : ∀ a, a < 3 → ∀ b, b < 3 → a ≠ b → (TX10 a).2.1 ≠ (TX10 b).2.1 := by decide +kernel
theorem tyX10_ok : ∀ k, k < 3 → parseFieldDescriptor (TX10 k).2.2.1 = some (tyX10 k) := by decide +kernel
abbrev cX10_init : ByteArray := prog_9_method_1_code
def yX10_init : MethodName := ⟨RX10, "<init>", "(LMeadowMilk$Trace;II)V"⟩
def dkwX10_init_0 : List UInt8 := [42, 43, 28, 29, 183, 0, 3, 177]
abbrev dktX10_init_0 : List UInt8 := dkwX10_init_0 ++ []
theorem dksX10_init_0 : cX10_init.data.toList.drop 0 = dktX10_init_0 := by decide +kernel
theorem dX10_init_0 : decode cX10_init 0 = .ok (.aload_n 0, 1) := dk_42 (dk_at dksX10_init_0 0 rfl rfl)
theorem dX10_init_1 : decode cX10_init 1 = .ok (.aload_n 1, 1) := dk_43 (dk_at dksX10_init_0 1 rfl rfl)
theorem dX10_init_2 : decode cX10_init 2 = .ok (.iload_n 2, 1) := dk_28 (dk_at dksX10_init_0 2 rfl rfl)
theorem dX10_init_3 : decode cX10_init 3 = .ok (.iload_n 3, 1) := dk_29 (dk_at dksX10_init_0 3 rfl rfl)
theorem dX10_init_4 : decode cX10_init 4 = .ok (.invokespecial 3, 3) := dk_183 0 3 (dk_at dksX10_init_0 4 rfl rfl)
theorem dX10_init_7 : decode cX10_init 7 = .ok (.return_, 1) := dk_177 (dk_at dksX10_init_0 7 rfl rfl)
abbrev cX10_kind : ByteArray := prog_9_method_2_code
def yX10_kind : MethodName := ⟨RX10, "kind", "()I"⟩
theorem dX10_kind_0 : decode cX10_kind 0 = .ok (.iconst 1, 1) := by decide +kernel
theorem dX10_kind_1 : decode cX10_kind 1 = .ok (.ireturn, 1) := by decide +kernel
abbrev cX10_eaten : ByteArray := prog_9_method_5_code
def yX10_eaten : MethodName := ⟨RX10, "eaten", "()I"⟩
def dkwX10_eaten_0 : List UInt8 := [8, 42, 180, 0, 17, 96, 172]
abbrev dktX10_eaten_0 : List UInt8 := dkwX10_eaten_0 ++ []
theorem dksX10_eaten_0 : cX10_eaten.data.toList.drop 0 = dktX10_eaten_0 := by decide +kernel
theorem dX10_eaten_0 : decode cX10_eaten 0 = .ok (.iconst 5, 1) := dk_8 (dk_at dksX10_eaten_0 0 rfl rfl)
theorem dX10_eaten_1 : decode cX10_eaten 1 = .ok (.aload_n 0, 1) := dk_42 (dk_at dksX10_eaten_0 1 rfl rfl)
theorem dX10_eaten_2 : decode cX10_eaten 2 = .ok (.getfield 17, 3) := dk_180 0 17 (dk_at dksX10_eaten_0 2 rfl rfl)
theorem dX10_eaten_5 : decode cX10_eaten 5 = .ok (.iadd, 1) := dk_96 (dk_at dksX10_eaten_0 5 rfl rfl)
theorem dX10_eaten_6 : decode cX10_eaten 6 = .ok (.ireturn, 1) := dk_172 (dk_at dksX10_eaten_0 6 rfl rfl)
abbrev cX10_wanted : ByteArray := prog_9_method_4_code
def yX10_wanted : MethodName := ⟨RX10, "wanted", "(IIZZ)I"⟩
def dkwX10_wanted_0 : List UInt8 := [42, 27, 28, 29, 21, 4, 183, 0, 13, 16, 10, 28, 104, 96, 172]
abbrev dktX10_wanted_0 : List UInt8 := dkwX10_wanted_0 ++ []
theorem dksX10_wanted_0 : cX10_wanted.data.toList.drop 0 = dktX10_wanted_0 := by decide +kernel
theorem dX10_wanted_0 : decode cX10_wanted 0 = .ok (.aload_n 0, 1) := dk_42 (dk_at dksX10_wanted_0 0 rfl rfl)
theorem dX10_wanted_1 : decode cX10_wanted 1 = .ok (.iload_n 1, 1) := dk_27 (dk_at dksX10_wanted_0 1 rfl rfl)
theorem dX10_wanted_2 : decode cX10_wanted 2 = .ok (.iload_n 2, 1) := dk_28 (dk_at dksX10_wanted_0 2 rfl rfl)
theorem dX10_wanted_3 : decode cX10_wanted 3 = .ok (.iload_n 3, 1) := dk_29 (dk_at dksX10_wanted_0 3 rfl rfl)
theorem dX10_wanted_4 : decode cX10_wanted 4 = .ok (.iload 4, 2) := dk_21 4 (dk_at dksX10_wanted_0 4 rfl rfl)
theorem dX10_wanted_6 : decode cX10_wanted 6 = .ok (.invokespecial 13, 3) := dk_183 0 13 (dk_at dksX10_wanted_0 6 rfl rfl)
theorem dX10_wanted_9 : decode cX10_wanted 9 = .ok (.bipush 10, 2) := dk_16 10 (dk_at dksX10_wanted_0 9 rfl rfl)
theorem dX10_wanted_11 : decode cX10_wanted 11 = .ok (.iload_n 2, 1) := dk_28 (dk_at dksX10_wanted_0 11 rfl rfl)
theorem dX10_wanted_12 : decode cX10_wanted 12 = .ok (.imul, 1) := dk_104 (dk_at dksX10_wanted_0 12 rfl rfl)
theorem dX10_wanted_13 : decode cX10_wanted 13 = .ok (.iadd, 1) := dk_96 (dk_at dksX10_wanted_0 13 rfl rfl)
theorem dX10_wanted_14 : decode cX10_wanted 14 = .ok (.ireturn, 1) := dk_172 (dk_at dksX10_wanted_0 14 rfl rfl)
abbrev cX10_isOf : ByteArray := prog_9_method_3_code
def yX10_isOf : MethodName := ⟨RX10, "isOf", "(I)Z"⟩
def dkwX10_isOf_0 : List UInt8 := [27, 4, 159, 0, 11, 42, 27, 183, 0, 9, 153, 0, 7, 4, 167, 0, 4, 3, 172]
abbrev dktX10_isOf_0 : List UInt8 := dkwX10_isOf_0 ++ []
theorem dksX10_isOf_0 : cX10_isOf.data.toList.drop 0 = dktX10_isOf_0 := by decide +kernel
theorem dX10_isOf_0 : decode cX10_isOf 0 = .ok (.iload_n 1, 1) := dk_27 (dk_at dksX10_isOf_0 0 rfl rfl)
theorem dX10_isOf_1 : decode cX10_isOf 1 = .ok (.iconst 1, 1) := dk_4 (dk_at dksX10_isOf_0 1 rfl rfl)
theorem dX10_isOf_2 : decode cX10_isOf 2 = .ok (.if_icmp .eq 11, 3) := dk_159 0 11 (dk_at dksX10_isOf_0 2 rfl rfl)
theorem dX10_isOf_5 : decode cX10_isOf 5 = .ok (.aload_n 0, 1) := dk_42 (dk_at dksX10_isOf_0 5 rfl rfl)
theorem dX10_isOf_6 : decode cX10_isOf 6 = .ok (.iload_n 1, 1) := dk_27 (dk_at dksX10_isOf_0 6 rfl rfl)
theorem dX10_isOf_7 : decode cX10_isOf 7 = .ok (.invokespecial 9, 3) := dk_183 0 9 (dk_at dksX10_isOf_0 7 rfl rfl)
theorem dX10_isOf_10 : decode cX10_isOf 10 = .ok (.ifCond .eq 7, 3) := dk_153 0 7 (dk_at dksX10_isOf_0 10 rfl rfl)
theorem dX10_isOf_13 : decode cX10_isOf 13 = .ok (.iconst 1, 1) := dk_4 (dk_at dksX10_isOf_0 13 rfl rfl)
theorem dX10_isOf_14 : decode cX10_isOf 14 = .ok (.goto 4, 3) := dk_167 0 4 (dk_at dksX10_isOf_0 14 rfl rfl)
theorem dX10_isOf_17 : decode cX10_isOf 17 = .ok (.iconst 0, 1) := dk_3 (dk_at dksX10_isOf_0 17 rfl rfl)
theorem dX10_isOf_18 : decode cX10_isOf 18 = .ok (.ireturn, 1) := dk_172 (dk_at dksX10_isOf_0 18 rfl rfl)
abbrev cX10_eats : ByteArray := prog_9_method_6_code
def yX10_eats : MethodName := ⟨RX10, "eats", "(I)I"⟩
def dkwX10_eats_0 : List UInt8 := [42, 180, 0, 23, 16, 20, 182, 0, 27, 42, 27, 183, 0, 33, 61, 28, 42, 4, 182, 0, 37, 100, 172]
abbrev dktX10_eats_0 : List UInt8 := dkwX10_eats_0 ++ []
theorem dksX10_eats_0 : cX10_eats.data.toList.drop 0 = dktX10_eats_0 := by decide +kernel
theorem dX10_eats_0 : decode cX10_eats 0 = .ok (.aload_n 0, 1) := dk_42 (dk_at dksX10_eats_0 0 rfl rfl)
theorem dX10_eats_1 : decode cX10_eats 1 = .ok (.getfield 23, 3) := dk_180 0 23 (dk_at dksX10_eats_0 1 rfl rfl)
theorem dX10_eats_4 : decode cX10_eats 4 = .ok (.bipush 20, 2) := dk_16 20 (dk_at dksX10_eats_0 4 rfl rfl)
theorem dX10_eats_6 : decode cX10_eats 6 = .ok (.invokevirtual 27, 3) := dk_182 0 27 (dk_at dksX10_eats_0 6 rfl rfl)
theorem dX10_eats_9 : decode cX10_eats 9 = .ok (.aload_n 0, 1) := dk_42 (dk_at dksX10_eats_0 9 rfl rfl)
theorem dX10_eats_10 : decode cX10_eats 10 = .ok (.iload_n 1, 1) := dk_27 (dk_at dksX10_eats_0 10 rfl rfl)
theorem dX10_eats_11 : decode cX10_eats 11 = .ok (.invokespecial 33, 3) := dk_183 0 33 (dk_at dksX10_eats_0 11 rfl rfl)
theorem dX10_eats_14 : decode cX10_eats 14 = .ok (.istore_n 2, 1) := dk_61 (dk_at dksX10_eats_0 14 rfl rfl)
theorem dX10_eats_15 : decode cX10_eats 15 = .ok (.iload_n 2, 1) := dk_28 (dk_at dksX10_eats_0 15 rfl rfl)
theorem dX10_eats_16 : decode cX10_eats 16 = .ok (.aload_n 0, 1) := dk_42 (dk_at dksX10_eats_0 16 rfl rfl)
theorem dX10_eats_17 : decode cX10_eats 17 = .ok (.iconst 1, 1) := dk_4 (dk_at dksX10_eats_0 17 rfl rfl)
theorem dX10_eats_18 : decode cX10_eats 18 = .ok (.invokevirtual 37, 3) := dk_182 0 37 (dk_at dksX10_eats_0 18 rfl rfl)
theorem dX10_eats_21 : decode cX10_eats 21 = .ok (.isub, 1) := dk_100 (dk_at dksX10_eats_0 21 rfl rfl)
theorem dX10_eats_22 : decode cX10_eats 22 = .ok (.ireturn, 1) := dk_172 (dk_at dksX10_eats_0 22 rfl rfl)
theorem q75 : (Jvm.Cond.initialized "MeadowMilk$Goat") ∈ lw_all := lw_g (lw_at lw_m1 15 rfl) rfl
theorem q406 : (Jvm.Cond.instantiable "MeadowMilk$Goat" (3 : Nat)) ∈ lw_all := lw_g (lw_at lw_m2 106 rfl) rfl
theorem q408 : (Jvm.Cond.instanceMethod ({ cls := "MeadowMilk$Goat", name := "<init>", desc := "(LMeadowMilk$Trace;II)V" } : Jvm.MethodName)) ∈ lw_all := lw_g (lw_at lw_m2 108 rfl) rfl
theorem q409 : (Jvm.Cond.code ({ cls := "MeadowMilk$Goat", name := "<init>", desc := "(LMeadowMilk$Trace;II)V" } : Jvm.MethodName) prog_9_method_1_code (4 : Nat) (Option.none : Option Jvm.ClassFile.FieldType)) ∈ lw_all := lw_g (lw_at lw_m2 109 rfl) rfl
theorem q410 : (Jvm.Cond.methodLink "MeadowMilk$Goat" (3 : Nat) ({ cls := "MeadowMilk$Cow", name := "<init>", desc := "(LMeadowMilk$Trace;II)V" } : Jvm.MethodName)) ∈ lw_all := lw_g (lw_at lw_m2 110 rfl) rfl
theorem q419 : (Jvm.Cond.fieldLink "MeadowMilk$Goat" (23 : Nat) "MeadowMilk$Goat" "trace" "LMeadowMilk$Trace;") ∈ lw_all := lw_g (lw_at lw_m2 119 rfl) rfl
theorem q420 : (Jvm.Cond.sameField "MeadowMilk$Goat" "MeadowMilk$Cow" "trace" "LMeadowMilk$Trace;") ∈ lw_all := lw_g (lw_at lw_m2 120 rfl) rfl
theorem q435 : (Jvm.Cond.fieldLink "MeadowMilk$Goat" (17 : Nat) "MeadowMilk$Goat" "m" "I") ∈ lw_all := lw_g (lw_at lw_m2 135 rfl) rfl
theorem q436 : (Jvm.Cond.sameField "MeadowMilk$Goat" "MeadowMilk$Cow" "m" "I") ∈ lw_all := lw_g (lw_at lw_m2 136 rfl) rfl
theorem q440 : (Jvm.Cond.laysFinal "MeadowMilk$Goat" "MeadowMilk$Cow" "trace" "LMeadowMilk$Trace;") ∈ lw_all := lw_g (lw_at lw_m2 140 rfl) rfl
theorem q442 : (Jvm.Cond.laysFinal "MeadowMilk$Goat" "MeadowMilk$Cow" "number" "I") ∈ lw_all := lw_g (lw_at lw_m2 142 rfl) rfl
theorem q444 : (Jvm.Cond.laysFinal "MeadowMilk$Goat" "MeadowMilk$Cow" "m" "I") ∈ lw_all := lw_g (lw_at lw_m2 144 rfl) rfl
theorem q446 : (Jvm.Cond.superclass "MeadowMilk$Goat" "MeadowMilk$Cow") ∈ lw_all := lw_g (lw_at lw_m2 146 rfl) rfl
theorem q520 : (Jvm.Cond.selects "MeadowMilk$Goat" ({ cls := "MeadowMilk$Cow", name := "kind", desc := "()I" } : Jvm.MethodName) ({ cls := "MeadowMilk$Goat", name := "kind", desc := "()I" } : Jvm.MethodName)) ∈ lw_all := lw_g (lw_at lw_m2 220 rfl) rfl
theorem q521 : (Jvm.Cond.instanceMethod ({ cls := "MeadowMilk$Goat", name := "kind", desc := "()I" } : Jvm.MethodName)) ∈ lw_all := lw_g (lw_at lw_m2 221 rfl) rfl
theorem q522 : (Jvm.Cond.code ({ cls := "MeadowMilk$Goat", name := "kind", desc := "()I" } : Jvm.MethodName) prog_9_method_2_code (1 : Nat) (Option.some Jvm.ClassFile.FieldType.int)) ∈ lw_all := lw_g (lw_at lw_m2 222 rfl) rfl
theorem q543 : (Jvm.Cond.selects "MeadowMilk$Goat" ({ cls := "MeadowMilk$Cow", name := "eaten", desc := "()I" } : Jvm.MethodName) ({ cls := "MeadowMilk$Goat", name := "eaten", desc := "()I" } : Jvm.MethodName)) ∈ lw_all := lw_g (lw_at lw_m3 3 rfl) rfl
theorem q544 : (Jvm.Cond.instanceMethod ({ cls := "MeadowMilk$Goat", name := "eaten", desc := "()I" } : Jvm.MethodName)) ∈ lw_all := lw_g (lw_at lw_m3 4 rfl) rfl
theorem q545 : (Jvm.Cond.code ({ cls := "MeadowMilk$Goat", name := "eaten", desc := "()I" } : Jvm.MethodName) prog_9_method_5_code (1 : Nat) (Option.some Jvm.ClassFile.FieldType.int)) ∈ lw_all := lw_g (lw_at lw_m3 5 rfl) rfl
theorem q561 : (Jvm.Cond.selects "MeadowMilk$Goat" ({ cls := "MeadowMilk$Cow", name := "span", desc := "()I" } : Jvm.MethodName) ({ cls := "MeadowMilk$Cow", name := "span", desc := "()I" } : Jvm.MethodName)) ∈ lw_all := lw_g (lw_at lw_m3 21 rfl) rfl
theorem q597 : (Jvm.Cond.selects "MeadowMilk$Goat" ({ cls := "MeadowMilk$Cow", name := "wanted", desc := "(IIZZ)I" } : Jvm.MethodName) ({ cls := "MeadowMilk$Goat", name := "wanted", desc := "(IIZZ)I" } : Jvm.MethodName)) ∈ lw_all := lw_g (lw_at lw_m3 57 rfl) rfl
theorem q598 : (Jvm.Cond.instanceMethod ({ cls := "MeadowMilk$Goat", name := "wanted", desc := "(IIZZ)I" } : Jvm.MethodName)) ∈ lw_all := lw_g (lw_at lw_m3 58 rfl) rfl
theorem q599 : (Jvm.Cond.code ({ cls := "MeadowMilk$Goat", name := "wanted", desc := "(IIZZ)I" } : Jvm.MethodName) prog_9_method_4_code (5 : Nat) (Option.some Jvm.ClassFile.FieldType.int)) ∈ lw_all := lw_g (lw_at lw_m3 59 rfl) rfl
theorem q600 : (Jvm.Cond.methodLink "MeadowMilk$Goat" (13 : Nat) ({ cls := "MeadowMilk$Cow", name := "wanted", desc := "(IIZZ)I" } : Jvm.MethodName)) ∈ lw_all := lw_g (lw_at lw_m3 60 rfl) rfl
theorem q639 : (Jvm.Cond.selects "MeadowMilk$Goat" ({ cls := "MeadowMilk$Cow", name := "isOf", desc := "(I)Z" } : Jvm.MethodName) ({ cls := "MeadowMilk$Goat", name := "isOf", desc := "(I)Z" } : Jvm.MethodName)) ∈ lw_all := lw_g (lw_at lw_m3 99 rfl) rfl
theorem q640 : (Jvm.Cond.instanceMethod ({ cls := "MeadowMilk$Goat", name := "isOf", desc := "(I)Z" } : Jvm.MethodName)) ∈ lw_all := lw_g (lw_at lw_m3 100 rfl) rfl
theorem q641 : (Jvm.Cond.code ({ cls := "MeadowMilk$Goat", name := "isOf", desc := "(I)Z" } : Jvm.MethodName) prog_9_method_3_code (2 : Nat) (Option.some Jvm.ClassFile.FieldType.boolean)) ∈ lw_all := lw_g (lw_at lw_m3 101 rfl) rfl
theorem q642 : (Jvm.Cond.methodLink "MeadowMilk$Goat" (9 : Nat) ({ cls := "MeadowMilk$Cow", name := "isOf", desc := "(I)Z" } : Jvm.MethodName)) ∈ lw_all := lw_g (lw_at lw_m3 102 rfl) rfl
theorem q1108 : (Jvm.Cond.castable "MeadowMilk$Goat" "MeadowMilk$Wants") ∈ lw_tbl := lw_at lw_m5 88 rfl
theorem q1109 : (Jvm.Cond.selects "MeadowMilk$Goat" ({ cls := "MeadowMilk$Wants", name := "wants", desc := "(I)I" } : Jvm.MethodName) ({ cls := "MeadowMilk$Cow", name := "wants", desc := "(I)I" } : Jvm.MethodName)) ∈ lw_all := lw_g (lw_at lw_m5 89 rfl) rfl
theorem q1110 : (Jvm.Cond.unhidden "MeadowMilk$Goat" "wants" "(I)I") ∈ lw_tbl := lw_at lw_m5 90 rfl
theorem q1142 : (Jvm.Cond.castable "MeadowMilk$Goat" "MeadowMilk$Eats") ∈ lw_tbl := lw_at lw_m5 122 rfl
theorem q1143 : (Jvm.Cond.selects "MeadowMilk$Goat" ({ cls := "MeadowMilk$Eats", name := "eats", desc := "(I)I" } : Jvm.MethodName) ({ cls := "MeadowMilk$Goat", name := "eats", desc := "(I)I" } : Jvm.MethodName)) ∈ lw_all := lw_g (lw_at lw_m5 123 rfl) rfl
theorem q1144 : (Jvm.Cond.unhidden "MeadowMilk$Goat" "eats" "(I)I") ∈ lw_tbl := lw_at lw_m5 124 rfl
theorem q1145 : (Jvm.Cond.instanceMethod ({ cls := "MeadowMilk$Goat", name := "eats", desc := "(I)I" } : Jvm.MethodName)) ∈ lw_all := lw_g (lw_at lw_m5 125 rfl) rfl
theorem q1146 : (Jvm.Cond.publicMethod ({ cls := "MeadowMilk$Goat", name := "eats", desc := "(I)I" } : Jvm.MethodName)) ∈ lw_tbl := lw_at lw_m5 126 rfl
theorem q1147 : (Jvm.Cond.code ({ cls := "MeadowMilk$Goat", name := "eats", desc := "(I)I" } : Jvm.MethodName) prog_9_method_6_code (3 : Nat) (Option.some Jvm.ClassFile.FieldType.int)) ∈ lw_all := lw_g (lw_at lw_m5 127 rfl) rfl
theorem q1148 : (Jvm.Cond.methodLink "MeadowMilk$Goat" (27 : Nat) ({ cls := "MeadowMilk$Trace", name := "begins", desc := "(I)V" } : Jvm.MethodName)) ∈ lw_all := lw_g (lw_at lw_m5 128 rfl) rfl
theorem q1149 : (Jvm.Cond.methodLink "MeadowMilk$Goat" (33 : Nat) ({ cls := "MeadowMilk$Cow", name := "eats", desc := "(I)I" } : Jvm.MethodName)) ∈ lw_all := lw_g (lw_at lw_m5 129 rfl) rfl
theorem q1150 : (Jvm.Cond.methodLink "MeadowMilk$Goat" (37 : Nat) ({ cls := "MeadowMilk$Goat", name := "knows", desc := "(I)I" } : Jvm.MethodName)) ∈ lw_all := lw_g (lw_at lw_m5 130 rfl) rfl
theorem q1151 : (Jvm.Cond.sameMethod "MeadowMilk$Goat" "MeadowMilk$Cow" "knows" "(I)I") ∈ lw_all := lw_g (lw_at lw_m5 131 rfl) rfl
theorem q1153 : (Jvm.Cond.selects "MeadowMilk$Goat" ({ cls := "MeadowMilk$Goat", name := "knows", desc := "(I)I" } : Jvm.MethodName) ({ cls := "MeadowMilk$Cow", name := "knows", desc := "(I)I" } : Jvm.MethodName)) ∈ lw_all := lw_g (lw_at lw_m5 133 rfl) rfl
theorem q1185 : (Jvm.Cond.castable "MeadowMilk$Goat" "MeadowMilk$Knows") ∈ lw_tbl := lw_at lw_m5 165 rfl
theorem q1186 : (Jvm.Cond.selects "MeadowMilk$Goat" ({ cls := "MeadowMilk$Knows", name := "knows", desc := "(I)I" } : Jvm.MethodName) ({ cls := "MeadowMilk$Cow", name := "knows", desc := "(I)I" } : Jvm.MethodName)) ∈ lw_all := lw_g (lw_at lw_m5 166 rfl) rfl
theorem q1187 : (Jvm.Cond.unhidden "MeadowMilk$Goat" "knows" "(I)I") ∈ lw_tbl := lw_at lw_m5 167 rfl
theorem q1225 : (Jvm.Cond.castable "MeadowMilk$Goat" "MeadowMilk$Tells") ∈ lw_tbl := lw_at lw_m5 205 rfl
theorem q1226 : (Jvm.Cond.selects "MeadowMilk$Goat" ({ cls := "MeadowMilk$Tells", name := "tells", desc := "(I)I" } : Jvm.MethodName) ({ cls := "MeadowMilk$Cow", name := "tells", desc := "(I)I" } : Jvm.MethodName)) ∈ lw_all := lw_g (lw_at lw_m5 206 rfl) rfl
theorem q1227 : (Jvm.Cond.unhidden "MeadowMilk$Goat" "tells" "(I)I") ∈ lw_tbl := lw_at lw_m5 207 rfl
theorem q1830 : (Jvm.Cond.sameMethod "MeadowMilk$Goat" "MeadowMilk$Goat" "eaten" "()I") ∈ lw_all := lw_g (lw_at lw_m8 90 rfl) rfl
theorem q1831 : (Jvm.Cond.sameMethod "MeadowMilk$Goat" "MeadowMilk$Goat" "wanted" "(IIZZ)I") ∈ lw_all := lw_g (lw_at lw_m8 91 rfl) rfl
theorem q1834 : (Jvm.Cond.sameMethod "MeadowMilk$Goat" "MeadowMilk$Goat" "isOf" "(I)Z") ∈ lw_all := lw_g (lw_at lw_m8 94 rfl) rfl
theorem q1839 : (Jvm.Cond.selects "MeadowMilk$Goat" ({ cls := "MeadowMilk$Cow", name := "wants", desc := "(I)I" } : Jvm.MethodName) ({ cls := "MeadowMilk$Cow", name := "wants", desc := "(I)I" } : Jvm.MethodName)) ∈ lw_all := lw_g (lw_at lw_m8 99 rfl) rfl
theorem q1846 : (Jvm.Cond.sameMethod "MeadowMilk$Goat" "MeadowMilk$Goat" "eats" "(I)I") ∈ lw_all := lw_g (lw_at lw_m8 106 rfl) rfl
theorem q1850 : (Jvm.Cond.selects "MeadowMilk$Goat" ({ cls := "MeadowMilk$Cow", name := "eats", desc := "(I)I" } : Jvm.MethodName) ({ cls := "MeadowMilk$Goat", name := "eats", desc := "(I)I" } : Jvm.MethodName)) ∈ lw_all := lw_g (lw_at lw_m8 110 rfl) rfl
theorem q1857 : (Jvm.Cond.selects "MeadowMilk$Goat" ({ cls := "MeadowMilk$Cow", name := "knows", desc := "(I)I" } : Jvm.MethodName) ({ cls := "MeadowMilk$Cow", name := "knows", desc := "(I)I" } : Jvm.MethodName)) ∈ lw_all := lw_g (lw_at lw_m8 117 rfl) rfl
theorem q1866 : (Jvm.Cond.castable "MeadowMilk$Goat" "MeadowMilk$Cow") ∈ lw_tbl := lw_at lw_m8 126 rfl
theorem in_X10 : ∀ w ∈ wsX100, w ∈ lw_all := lw_in wsX100 [440, 442, 444] (by decide +kernel) (by decide +kernel)
/-! MeadowMilk$Wanderer -/
set_option maxRecDepth 100000
def RX11 : String := "MeadowMilk$Wanderer"
def TX11 : u_T := fun k => match k with
  | 0 => ("MeadowMilk$Cow", "trace", "LMeadowMilk$Trace;", true)
  | 1 => ("MeadowMilk$Cow", "number", "I", true)
  | _ => ("MeadowMilk$Cow", "m", "I", true)
def tyX11 : Nat → FieldType := fun k => match k with
  | 0 => .object "MeadowMilk$Trace"
  | 1 => .int
  | _ => .int
abbrev wsX110 : List Cond := u_ws RX11 TX11 3
theorem nmX11 : ∀ a, a < 3 → ∀ b, b < 3 → a ≠ b → (TX11 a).2.1 ≠ (TX11 b).2.1 := by decide +kernel
theorem tyX11_ok : ∀ k, k < 3 → parseFieldDescriptor (TX11 k).2.2.1 = some (tyX11 k) := by decide +kernel
abbrev cX11_init : ByteArray := prog_27_method_1_code
def yX11_init : MethodName := ⟨RX11, "<init>", "(LMeadowMilk$Trace;II)V"⟩
def dkwX11_init_0 : List UInt8 := [42, 43, 28, 29, 183, 0, 3, 177]
abbrev dktX11_init_0 : List UInt8 := dkwX11_init_0 ++ []
theorem dksX11_init_0 : cX11_init.data.toList.drop 0 = dktX11_init_0 := by decide +kernel
theorem dX11_init_0 : decode cX11_init 0 = .ok (.aload_n 0, 1) := dk_42 (dk_at dksX11_init_0 0 rfl rfl)
theorem dX11_init_1 : decode cX11_init 1 = .ok (.aload_n 1, 1) := dk_43 (dk_at dksX11_init_0 1 rfl rfl)
theorem dX11_init_2 : decode cX11_init 2 = .ok (.iload_n 2, 1) := dk_28 (dk_at dksX11_init_0 2 rfl rfl)
theorem dX11_init_3 : decode cX11_init 3 = .ok (.iload_n 3, 1) := dk_29 (dk_at dksX11_init_0 3 rfl rfl)
theorem dX11_init_4 : decode cX11_init 4 = .ok (.invokespecial 3, 3) := dk_183 0 3 (dk_at dksX11_init_0 4 rfl rfl)
theorem dX11_init_7 : decode cX11_init 7 = .ok (.return_, 1) := dk_177 (dk_at dksX11_init_0 7 rfl rfl)
abbrev cX11_kind : ByteArray := prog_27_method_2_code
def yX11_kind : MethodName := ⟨RX11, "kind", "()I"⟩
theorem dX11_kind_0 : decode cX11_kind 0 = .ok (.iconst 2, 1) := by decide +kernel
theorem dX11_kind_1 : decode cX11_kind 1 = .ok (.ireturn, 1) := by decide +kernel
abbrev cX11_span : ByteArray := prog_27_method_5_code
def yX11_span : MethodName := ⟨RX11, "span", "()I"⟩
theorem dX11_span_0 : decode cX11_span 0 = .ok (.bipush 8, 2) := by decide +kernel
theorem dX11_span_2 : decode cX11_span 2 = .ok (.ireturn, 1) := by decide +kernel
abbrev cX11_wanted : ByteArray := prog_27_method_4_code
def yX11_wanted : MethodName := ⟨RX11, "wanted", "(IIZZ)I"⟩
def dkwX11_wanted_0 : List UInt8 := [42, 27, 28, 29, 21, 4, 183, 0, 13, 29, 153, 0, 8, 16, 50, 167, 0, 4, 3, 100, 172]
abbrev dktX11_wanted_0 : List UInt8 := dkwX11_wanted_0 ++ []
theorem dksX11_wanted_0 : cX11_wanted.data.toList.drop 0 = dktX11_wanted_0 := by decide +kernel
theorem dX11_wanted_0 : decode cX11_wanted 0 = .ok (.aload_n 0, 1) := dk_42 (dk_at dksX11_wanted_0 0 rfl rfl)
theorem dX11_wanted_1 : decode cX11_wanted 1 = .ok (.iload_n 1, 1) := dk_27 (dk_at dksX11_wanted_0 1 rfl rfl)
theorem dX11_wanted_2 : decode cX11_wanted 2 = .ok (.iload_n 2, 1) := dk_28 (dk_at dksX11_wanted_0 2 rfl rfl)
theorem dX11_wanted_3 : decode cX11_wanted 3 = .ok (.iload_n 3, 1) := dk_29 (dk_at dksX11_wanted_0 3 rfl rfl)
theorem dX11_wanted_4 : decode cX11_wanted 4 = .ok (.iload 4, 2) := dk_21 4 (dk_at dksX11_wanted_0 4 rfl rfl)
theorem dX11_wanted_6 : decode cX11_wanted 6 = .ok (.invokespecial 13, 3) := dk_183 0 13 (dk_at dksX11_wanted_0 6 rfl rfl)
theorem dX11_wanted_9 : decode cX11_wanted 9 = .ok (.iload_n 3, 1) := dk_29 (dk_at dksX11_wanted_0 9 rfl rfl)
theorem dX11_wanted_10 : decode cX11_wanted 10 = .ok (.ifCond .eq 8, 3) := dk_153 0 8 (dk_at dksX11_wanted_0 10 rfl rfl)
theorem dX11_wanted_13 : decode cX11_wanted 13 = .ok (.bipush 50, 2) := dk_16 50 (dk_at dksX11_wanted_0 13 rfl rfl)
theorem dX11_wanted_15 : decode cX11_wanted 15 = .ok (.goto 4, 3) := dk_167 0 4 (dk_at dksX11_wanted_0 15 rfl rfl)
theorem dX11_wanted_18 : decode cX11_wanted 18 = .ok (.iconst 0, 1) := dk_3 (dk_at dksX11_wanted_0 18 rfl rfl)
theorem dX11_wanted_19 : decode cX11_wanted 19 = .ok (.isub, 1) := dk_100 (dk_at dksX11_wanted_0 19 rfl rfl)
theorem dX11_wanted_20 : decode cX11_wanted 20 = .ok (.ireturn, 1) := dk_172 (dk_at dksX11_wanted_0 20 rfl rfl)
abbrev cX11_isOf : ByteArray := prog_27_method_3_code
def yX11_isOf : MethodName := ⟨RX11, "isOf", "(I)Z"⟩
def dkwX11_isOf_0 : List UInt8 := [27, 5, 159, 0, 11, 42, 27, 183, 0, 9, 153, 0, 7, 4, 167, 0, 4, 3, 172]
abbrev dktX11_isOf_0 : List UInt8 := dkwX11_isOf_0 ++ []
theorem dksX11_isOf_0 : cX11_isOf.data.toList.drop 0 = dktX11_isOf_0 := by decide +kernel
theorem dX11_isOf_0 : decode cX11_isOf 0 = .ok (.iload_n 1, 1) := dk_27 (dk_at dksX11_isOf_0 0 rfl rfl)
theorem dX11_isOf_1 : decode cX11_isOf 1 = .ok (.iconst 2, 1) := dk_5 (dk_at dksX11_isOf_0 1 rfl rfl)
theorem dX11_isOf_2 : decode cX11_isOf 2 = .ok (.if_icmp .eq 11, 3) := dk_159 0 11 (dk_at dksX11_isOf_0 2 rfl rfl)
theorem dX11_isOf_5 : decode cX11_isOf 5 = .ok (.aload_n 0, 1) := dk_42 (dk_at dksX11_isOf_0 5 rfl rfl)
theorem dX11_isOf_6 : decode cX11_isOf 6 = .ok (.iload_n 1, 1) := dk_27 (dk_at dksX11_isOf_0 6 rfl rfl)
theorem dX11_isOf_7 : decode cX11_isOf 7 = .ok (.invokespecial 9, 3) := dk_183 0 9 (dk_at dksX11_isOf_0 7 rfl rfl)
theorem dX11_isOf_10 : decode cX11_isOf 10 = .ok (.ifCond .eq 7, 3) := dk_153 0 7 (dk_at dksX11_isOf_0 10 rfl rfl)
theorem dX11_isOf_13 : decode cX11_isOf 13 = .ok (.iconst 1, 1) := dk_4 (dk_at dksX11_isOf_0 13 rfl rfl)
theorem dX11_isOf_14 : decode cX11_isOf 14 = .ok (.goto 4, 3) := dk_167 0 4 (dk_at dksX11_isOf_0 14 rfl rfl)
theorem dX11_isOf_17 : decode cX11_isOf 17 = .ok (.iconst 0, 1) := dk_3 (dk_at dksX11_isOf_0 17 rfl rfl)
theorem dX11_isOf_18 : decode cX11_isOf 18 = .ok (.ireturn, 1) := dk_172 (dk_at dksX11_isOf_0 18 rfl rfl)
abbrev cX11_wants : ByteArray := prog_27_method_6_code
def yX11_wants : MethodName := ⟨RX11, "wants", "(I)I"⟩
def dkwX11_wants_0 : List UInt8 := [42, 180, 0, 17, 16, 30, 182, 0, 23, 42, 27, 183, 0, 29, 6, 104, 172]
abbrev dktX11_wants_0 : List UInt8 := dkwX11_wants_0 ++ []
theorem dksX11_wants_0 : cX11_wants.data.toList.drop 0 = dktX11_wants_0 := by decide +kernel
theorem dX11_wants_0 : decode cX11_wants 0 = .ok (.aload_n 0, 1) := dk_42 (dk_at dksX11_wants_0 0 rfl rfl)
theorem dX11_wants_1 : decode cX11_wants 1 = .ok (.getfield 17, 3) := dk_180 0 17 (dk_at dksX11_wants_0 1 rfl rfl)
theorem dX11_wants_4 : decode cX11_wants 4 = .ok (.bipush 30, 2) := dk_16 30 (dk_at dksX11_wants_0 4 rfl rfl)
theorem dX11_wants_6 : decode cX11_wants 6 = .ok (.invokevirtual 23, 3) := dk_182 0 23 (dk_at dksX11_wants_0 6 rfl rfl)
theorem dX11_wants_9 : decode cX11_wants 9 = .ok (.aload_n 0, 1) := dk_42 (dk_at dksX11_wants_0 9 rfl rfl)
theorem dX11_wants_10 : decode cX11_wants 10 = .ok (.iload_n 1, 1) := dk_27 (dk_at dksX11_wants_0 10 rfl rfl)
theorem dX11_wants_11 : decode cX11_wants 11 = .ok (.invokespecial 29, 3) := dk_183 0 29 (dk_at dksX11_wants_0 11 rfl rfl)
theorem dX11_wants_14 : decode cX11_wants 14 = .ok (.iconst 3, 1) := dk_6 (dk_at dksX11_wants_0 14 rfl rfl)
theorem dX11_wants_15 : decode cX11_wants 15 = .ok (.imul, 1) := dk_104 (dk_at dksX11_wants_0 15 rfl rfl)
theorem dX11_wants_16 : decode cX11_wants 16 = .ok (.ireturn, 1) := dk_172 (dk_at dksX11_wants_0 16 rfl rfl)
theorem q76 : (Jvm.Cond.initialized "MeadowMilk$Wanderer") ∈ lw_all := lw_g (lw_at lw_m1 16 rfl) rfl
theorem q417 : (Jvm.Cond.fieldLink "MeadowMilk$Wanderer" (17 : Nat) "MeadowMilk$Wanderer" "trace" "LMeadowMilk$Trace;") ∈ lw_all := lw_g (lw_at lw_m2 117 rfl) rfl
theorem q418 : (Jvm.Cond.sameField "MeadowMilk$Wanderer" "MeadowMilk$Cow" "trace" "LMeadowMilk$Trace;") ∈ lw_all := lw_g (lw_at lw_m2 118 rfl) rfl
theorem q448 : (Jvm.Cond.instantiable "MeadowMilk$Wanderer" (3 : Nat)) ∈ lw_all := lw_g (lw_at lw_m2 148 rfl) rfl
theorem q450 : (Jvm.Cond.instanceMethod ({ cls := "MeadowMilk$Wanderer", name := "<init>", desc := "(LMeadowMilk$Trace;II)V" } : Jvm.MethodName)) ∈ lw_all := lw_g (lw_at lw_m2 150 rfl) rfl
theorem q451 : (Jvm.Cond.code ({ cls := "MeadowMilk$Wanderer", name := "<init>", desc := "(LMeadowMilk$Trace;II)V" } : Jvm.MethodName) prog_27_method_1_code (4 : Nat) (Option.none : Option Jvm.ClassFile.FieldType)) ∈ lw_all := lw_g (lw_at lw_m2 151 rfl) rfl
theorem q452 : (Jvm.Cond.methodLink "MeadowMilk$Wanderer" (3 : Nat) ({ cls := "MeadowMilk$Cow", name := "<init>", desc := "(LMeadowMilk$Trace;II)V" } : Jvm.MethodName)) ∈ lw_all := lw_g (lw_at lw_m2 152 rfl) rfl
theorem q453 : (Jvm.Cond.laysFinal "MeadowMilk$Wanderer" "MeadowMilk$Cow" "trace" "LMeadowMilk$Trace;") ∈ lw_all := lw_g (lw_at lw_m2 153 rfl) rfl
theorem q454 : (Jvm.Cond.laysFinal "MeadowMilk$Wanderer" "MeadowMilk$Cow" "number" "I") ∈ lw_all := lw_g (lw_at lw_m2 154 rfl) rfl
theorem q455 : (Jvm.Cond.laysFinal "MeadowMilk$Wanderer" "MeadowMilk$Cow" "m" "I") ∈ lw_all := lw_g (lw_at lw_m2 155 rfl) rfl
theorem q456 : (Jvm.Cond.superclass "MeadowMilk$Wanderer" "MeadowMilk$Cow") ∈ lw_all := lw_g (lw_at lw_m2 156 rfl) rfl
theorem q535 : (Jvm.Cond.selects "MeadowMilk$Wanderer" ({ cls := "MeadowMilk$Cow", name := "kind", desc := "()I" } : Jvm.MethodName) ({ cls := "MeadowMilk$Wanderer", name := "kind", desc := "()I" } : Jvm.MethodName)) ∈ lw_all := lw_g (lw_at lw_m2 235 rfl) rfl
theorem q536 : (Jvm.Cond.instanceMethod ({ cls := "MeadowMilk$Wanderer", name := "kind", desc := "()I" } : Jvm.MethodName)) ∈ lw_all := lw_g (lw_at lw_m2 236 rfl) rfl
theorem q537 : (Jvm.Cond.code ({ cls := "MeadowMilk$Wanderer", name := "kind", desc := "()I" } : Jvm.MethodName) prog_27_method_2_code (1 : Nat) (Option.some Jvm.ClassFile.FieldType.int)) ∈ lw_all := lw_g (lw_at lw_m2 237 rfl) rfl
theorem q555 : (Jvm.Cond.selects "MeadowMilk$Wanderer" ({ cls := "MeadowMilk$Cow", name := "eaten", desc := "()I" } : Jvm.MethodName) ({ cls := "MeadowMilk$Cow", name := "eaten", desc := "()I" } : Jvm.MethodName)) ∈ lw_all := lw_g (lw_at lw_m3 15 rfl) rfl
theorem q570 : (Jvm.Cond.instanceMethod ({ cls := "MeadowMilk$Wanderer", name := "span", desc := "()I" } : Jvm.MethodName)) ∈ lw_all := lw_g (lw_at lw_m3 30 rfl) rfl
theorem q571 : (Jvm.Cond.code ({ cls := "MeadowMilk$Wanderer", name := "span", desc := "()I" } : Jvm.MethodName) prog_27_method_5_code (1 : Nat) (Option.some Jvm.ClassFile.FieldType.int)) ∈ lw_all := lw_g (lw_at lw_m3 31 rfl) rfl
theorem q572 : (Jvm.Cond.selects "MeadowMilk$Wanderer" ({ cls := "MeadowMilk$Cow", name := "span", desc := "()I" } : Jvm.MethodName) ({ cls := "MeadowMilk$Wanderer", name := "span", desc := "()I" } : Jvm.MethodName)) ∈ lw_all := lw_g (lw_at lw_m3 32 rfl) rfl
theorem q617 : (Jvm.Cond.instanceMethod ({ cls := "MeadowMilk$Wanderer", name := "wanted", desc := "(IIZZ)I" } : Jvm.MethodName)) ∈ lw_all := lw_g (lw_at lw_m3 77 rfl) rfl
theorem q618 : (Jvm.Cond.code ({ cls := "MeadowMilk$Wanderer", name := "wanted", desc := "(IIZZ)I" } : Jvm.MethodName) prog_27_method_4_code (5 : Nat) (Option.some Jvm.ClassFile.FieldType.int)) ∈ lw_all := lw_g (lw_at lw_m3 78 rfl) rfl
theorem q619 : (Jvm.Cond.methodLink "MeadowMilk$Wanderer" (13 : Nat) ({ cls := "MeadowMilk$Cow", name := "wanted", desc := "(IIZZ)I" } : Jvm.MethodName)) ∈ lw_all := lw_g (lw_at lw_m3 79 rfl) rfl
theorem q620 : (Jvm.Cond.selects "MeadowMilk$Wanderer" ({ cls := "MeadowMilk$Cow", name := "wanted", desc := "(IIZZ)I" } : Jvm.MethodName) ({ cls := "MeadowMilk$Wanderer", name := "wanted", desc := "(IIZZ)I" } : Jvm.MethodName)) ∈ lw_all := lw_g (lw_at lw_m3 80 rfl) rfl
theorem q659 : (Jvm.Cond.instanceMethod ({ cls := "MeadowMilk$Wanderer", name := "isOf", desc := "(I)Z" } : Jvm.MethodName)) ∈ lw_all := lw_g (lw_at lw_m3 119 rfl) rfl
theorem q660 : (Jvm.Cond.code ({ cls := "MeadowMilk$Wanderer", name := "isOf", desc := "(I)Z" } : Jvm.MethodName) prog_27_method_3_code (2 : Nat) (Option.some Jvm.ClassFile.FieldType.boolean)) ∈ lw_all := lw_g (lw_at lw_m3 120 rfl) rfl
theorem q661 : (Jvm.Cond.methodLink "MeadowMilk$Wanderer" (9 : Nat) ({ cls := "MeadowMilk$Cow", name := "isOf", desc := "(I)Z" } : Jvm.MethodName)) ∈ lw_all := lw_g (lw_at lw_m3 121 rfl) rfl
theorem q662 : (Jvm.Cond.selects "MeadowMilk$Wanderer" ({ cls := "MeadowMilk$Cow", name := "isOf", desc := "(I)Z" } : Jvm.MethodName) ({ cls := "MeadowMilk$Wanderer", name := "isOf", desc := "(I)Z" } : Jvm.MethodName)) ∈ lw_all := lw_g (lw_at lw_m3 122 rfl) rfl
theorem q1123 : (Jvm.Cond.instanceMethod ({ cls := "MeadowMilk$Wanderer", name := "wants", desc := "(I)I" } : Jvm.MethodName)) ∈ lw_all := lw_g (lw_at lw_m5 103 rfl) rfl
theorem q1124 : (Jvm.Cond.publicMethod ({ cls := "MeadowMilk$Wanderer", name := "wants", desc := "(I)I" } : Jvm.MethodName)) ∈ lw_tbl := lw_at lw_m5 104 rfl
theorem q1125 : (Jvm.Cond.code ({ cls := "MeadowMilk$Wanderer", name := "wants", desc := "(I)I" } : Jvm.MethodName) prog_27_method_6_code (2 : Nat) (Option.some Jvm.ClassFile.FieldType.int)) ∈ lw_all := lw_g (lw_at lw_m5 105 rfl) rfl
theorem q1126 : (Jvm.Cond.methodLink "MeadowMilk$Wanderer" (23 : Nat) ({ cls := "MeadowMilk$Trace", name := "begins", desc := "(I)V" } : Jvm.MethodName)) ∈ lw_all := lw_g (lw_at lw_m5 106 rfl) rfl
theorem q1127 : (Jvm.Cond.methodLink "MeadowMilk$Wanderer" (29 : Nat) ({ cls := "MeadowMilk$Cow", name := "wants", desc := "(I)I" } : Jvm.MethodName)) ∈ lw_all := lw_g (lw_at lw_m5 107 rfl) rfl
theorem q1128 : (Jvm.Cond.castable "MeadowMilk$Wanderer" "MeadowMilk$Wants") ∈ lw_tbl := lw_at lw_m5 108 rfl
theorem q1129 : (Jvm.Cond.selects "MeadowMilk$Wanderer" ({ cls := "MeadowMilk$Wants", name := "wants", desc := "(I)I" } : Jvm.MethodName) ({ cls := "MeadowMilk$Wanderer", name := "wants", desc := "(I)I" } : Jvm.MethodName)) ∈ lw_all := lw_g (lw_at lw_m5 109 rfl) rfl
theorem q1130 : (Jvm.Cond.unhidden "MeadowMilk$Wanderer" "wants" "(I)I") ∈ lw_tbl := lw_at lw_m5 110 rfl
theorem q1174 : (Jvm.Cond.castable "MeadowMilk$Wanderer" "MeadowMilk$Eats") ∈ lw_tbl := lw_at lw_m5 154 rfl
theorem q1175 : (Jvm.Cond.selects "MeadowMilk$Wanderer" ({ cls := "MeadowMilk$Eats", name := "eats", desc := "(I)I" } : Jvm.MethodName) ({ cls := "MeadowMilk$Cow", name := "eats", desc := "(I)I" } : Jvm.MethodName)) ∈ lw_all := lw_g (lw_at lw_m5 155 rfl) rfl
theorem q1176 : (Jvm.Cond.unhidden "MeadowMilk$Wanderer" "eats" "(I)I") ∈ lw_tbl := lw_at lw_m5 156 rfl
theorem q1210 : (Jvm.Cond.castable "MeadowMilk$Wanderer" "MeadowMilk$Knows") ∈ lw_tbl := lw_at lw_m5 190 rfl
theorem q1211 : (Jvm.Cond.selects "MeadowMilk$Wanderer" ({ cls := "MeadowMilk$Knows", name := "knows", desc := "(I)I" } : Jvm.MethodName) ({ cls := "MeadowMilk$Cow", name := "knows", desc := "(I)I" } : Jvm.MethodName)) ∈ lw_all := lw_g (lw_at lw_m5 191 rfl) rfl
theorem q1212 : (Jvm.Cond.unhidden "MeadowMilk$Wanderer" "knows" "(I)I") ∈ lw_tbl := lw_at lw_m5 192 rfl
theorem q1255 : (Jvm.Cond.sameMethod "MeadowMilk$Wanderer" "MeadowMilk$Cow" "tells" "(I)I") ∈ lw_all := lw_g (lw_at lw_m5 235 rfl) rfl
theorem q1258 : (Jvm.Cond.declares ({ cls := "MeadowMilk$Wanderer", name := "wants", desc := "(I)I" } : Jvm.MethodName)) ∈ lw_tbl := lw_at lw_m5 238 rfl
theorem q1260 : (Jvm.Cond.castable "MeadowMilk$Wanderer" "MeadowMilk$Tells") ∈ lw_tbl := lw_at lw_m6 0 rfl
theorem q1261 : (Jvm.Cond.selects "MeadowMilk$Wanderer" ({ cls := "MeadowMilk$Tells", name := "tells", desc := "(I)I" } : Jvm.MethodName) ({ cls := "MeadowMilk$Cow", name := "tells", desc := "(I)I" } : Jvm.MethodName)) ∈ lw_all := lw_g (lw_at lw_m6 1 rfl) rfl
theorem q1262 : (Jvm.Cond.unhidden "MeadowMilk$Wanderer" "tells" "(I)I") ∈ lw_tbl := lw_at lw_m6 2 rfl
theorem q1833 : (Jvm.Cond.sameMethod "MeadowMilk$Wanderer" "MeadowMilk$Wanderer" "wanted" "(IIZZ)I") ∈ lw_all := lw_g (lw_at lw_m8 93 rfl) rfl
theorem q1836 : (Jvm.Cond.sameMethod "MeadowMilk$Wanderer" "MeadowMilk$Wanderer" "isOf" "(I)Z") ∈ lw_all := lw_g (lw_at lw_m8 96 rfl) rfl
theorem q1844 : (Jvm.Cond.selects "MeadowMilk$Wanderer" ({ cls := "MeadowMilk$Cow", name := "wants", desc := "(I)I" } : Jvm.MethodName) ({ cls := "MeadowMilk$Wanderer", name := "wants", desc := "(I)I" } : Jvm.MethodName)) ∈ lw_all := lw_g (lw_at lw_m8 104 rfl) rfl
theorem q1855 : (Jvm.Cond.selects "MeadowMilk$Wanderer" ({ cls := "MeadowMilk$Cow", name := "eats", desc := "(I)I" } : Jvm.MethodName) ({ cls := "MeadowMilk$Cow", name := "eats", desc := "(I)I" } : Jvm.MethodName)) ∈ lw_all := lw_g (lw_at lw_m8 115 rfl) rfl
theorem q1862 : (Jvm.Cond.selects "MeadowMilk$Wanderer" ({ cls := "MeadowMilk$Cow", name := "knows", desc := "(I)I" } : Jvm.MethodName) ({ cls := "MeadowMilk$Cow", name := "knows", desc := "(I)I" } : Jvm.MethodName)) ∈ lw_all := lw_g (lw_at lw_m8 122 rfl) rfl
theorem q1867 : (Jvm.Cond.castable "MeadowMilk$Wanderer" "MeadowMilk$Cow") ∈ lw_tbl := lw_at lw_m8 127 rfl
theorem in_X11 : ∀ w ∈ wsX110, w ∈ lw_all := lw_in wsX110 [453, 454, 455] (by decide +kernel) (by decide +kernel)
/-! MeadowMilk$Homely -/
set_option maxRecDepth 100000
def RX12 : String := "MeadowMilk$Homely"
def TX12 : u_T := fun k => match k with
  | 0 => ("MeadowMilk$Cow", "trace", "LMeadowMilk$Trace;", true)
  | 1 => ("MeadowMilk$Cow", "number", "I", true)
  | _ => ("MeadowMilk$Cow", "m", "I", true)
def tyX12 : Nat → FieldType := fun k => match k with
  | 0 => .object "MeadowMilk$Trace"
  | 1 => .int
  | _ => .int
abbrev wsX120 : List Cond := u_ws RX12 TX12 3
theorem nmX12 : ∀ a, a < 3 → ∀ b, b < 3 → a ≠ b → (TX12 a).2.1 ≠ (TX12 b).2.1 := by decide +kernel
theorem tyX12_ok : ∀ k, k < 3 → parseFieldDescriptor (TX12 k).2.2.1 = some (tyX12 k) := by decide +kernel
abbrev cX12_init : ByteArray := prog_10_method_1_code
def yX12_init : MethodName := ⟨RX12, "<init>", "(LMeadowMilk$Trace;II)V"⟩
def dkwX12_init_0 : List UInt8 := [42, 43, 28, 29, 183, 0, 3, 177]
abbrev dktX12_init_0 : List UInt8 := dkwX12_init_0 ++ []
theorem dksX12_init_0 : cX12_init.data.toList.drop 0 = dktX12_init_0 := by decide +kernel
theorem dX12_init_0 : decode cX12_init 0 = .ok (.aload_n 0, 1) := dk_42 (dk_at dksX12_init_0 0 rfl rfl)
theorem dX12_init_1 : decode cX12_init 1 = .ok (.aload_n 1, 1) := dk_43 (dk_at dksX12_init_0 1 rfl rfl)
theorem dX12_init_2 : decode cX12_init 2 = .ok (.iload_n 2, 1) := dk_28 (dk_at dksX12_init_0 2 rfl rfl)
theorem dX12_init_3 : decode cX12_init 3 = .ok (.iload_n 3, 1) := dk_29 (dk_at dksX12_init_0 3 rfl rfl)
theorem dX12_init_4 : decode cX12_init 4 = .ok (.invokespecial 3, 3) := dk_183 0 3 (dk_at dksX12_init_0 4 rfl rfl)
theorem dX12_init_7 : decode cX12_init 7 = .ok (.return_, 1) := dk_177 (dk_at dksX12_init_0 7 rfl rfl)
abbrev cX12_kind : ByteArray := prog_10_method_2_code
def yX12_kind : MethodName := ⟨RX12, "kind", "()I"⟩
theorem dX12_kind_0 : decode cX12_kind 0 = .ok (.iconst 3, 1) := by decide +kernel
theorem dX12_kind_1 : decode cX12_kind 1 = .ok (.ireturn, 1) := by decide +kernel
abbrev cX12_eaten : ByteArray := prog_10_method_5_code
def yX12_eaten : MethodName := ⟨RX12, "eaten", "()I"⟩
theorem dX12_eaten_0 : decode cX12_eaten 0 = .ok (.bipush 15, 2) := by decide +kernel
theorem dX12_eaten_2 : decode cX12_eaten 2 = .ok (.ireturn, 1) := by decide +kernel
abbrev cX12_wanted : ByteArray := prog_10_method_4_code
def yX12_wanted : MethodName := ⟨RX12, "wanted", "(IIZZ)I"⟩
def dkwX12_wanted_0 : List UInt8 := [42, 27, 28, 29, 21, 4, 183, 0, 13, 21, 4, 153, 0, 10, 42, 180, 0, 17, 167, 0, 4, 3, 96, 172]
abbrev dktX12_wanted_0 : List UInt8 := dkwX12_wanted_0 ++ []
theorem dksX12_wanted_0 : cX12_wanted.data.toList.drop 0 = dktX12_wanted_0 := by decide +kernel
theorem dX12_wanted_0 : decode cX12_wanted 0 = .ok (.aload_n 0, 1) := dk_42 (dk_at dksX12_wanted_0 0 rfl rfl)
theorem dX12_wanted_1 : decode cX12_wanted 1 = .ok (.iload_n 1, 1) := dk_27 (dk_at dksX12_wanted_0 1 rfl rfl)
theorem dX12_wanted_2 : decode cX12_wanted 2 = .ok (.iload_n 2, 1) := dk_28 (dk_at dksX12_wanted_0 2 rfl rfl)
theorem dX12_wanted_3 : decode cX12_wanted 3 = .ok (.iload_n 3, 1) := dk_29 (dk_at dksX12_wanted_0 3 rfl rfl)
theorem dX12_wanted_4 : decode cX12_wanted 4 = .ok (.iload 4, 2) := dk_21 4 (dk_at dksX12_wanted_0 4 rfl rfl)
theorem dX12_wanted_6 : decode cX12_wanted 6 = .ok (.invokespecial 13, 3) := dk_183 0 13 (dk_at dksX12_wanted_0 6 rfl rfl)
theorem dX12_wanted_9 : decode cX12_wanted 9 = .ok (.iload 4, 2) := dk_21 4 (dk_at dksX12_wanted_0 9 rfl rfl)
theorem dX12_wanted_11 : decode cX12_wanted 11 = .ok (.ifCond .eq 10, 3) := dk_153 0 10 (dk_at dksX12_wanted_0 11 rfl rfl)
theorem dX12_wanted_14 : decode cX12_wanted 14 = .ok (.aload_n 0, 1) := dk_42 (dk_at dksX12_wanted_0 14 rfl rfl)
theorem dX12_wanted_15 : decode cX12_wanted 15 = .ok (.getfield 17, 3) := dk_180 0 17 (dk_at dksX12_wanted_0 15 rfl rfl)
theorem dX12_wanted_18 : decode cX12_wanted 18 = .ok (.goto 4, 3) := dk_167 0 4 (dk_at dksX12_wanted_0 18 rfl rfl)
theorem dX12_wanted_21 : decode cX12_wanted 21 = .ok (.iconst 0, 1) := dk_3 (dk_at dksX12_wanted_0 21 rfl rfl)
theorem dX12_wanted_22 : decode cX12_wanted 22 = .ok (.iadd, 1) := dk_96 (dk_at dksX12_wanted_0 22 rfl rfl)
theorem dX12_wanted_23 : decode cX12_wanted 23 = .ok (.ireturn, 1) := dk_172 (dk_at dksX12_wanted_0 23 rfl rfl)
abbrev cX12_isOf : ByteArray := prog_10_method_3_code
def yX12_isOf : MethodName := ⟨RX12, "isOf", "(I)Z"⟩
def dkwX12_isOf_0 : List UInt8 := [27, 6, 159, 0, 11, 42, 27, 183, 0, 9, 153, 0, 7, 4, 167, 0, 4, 3, 172]
abbrev dktX12_isOf_0 : List UInt8 := dkwX12_isOf_0 ++ []
theorem dksX12_isOf_0 : cX12_isOf.data.toList.drop 0 = dktX12_isOf_0 := by decide +kernel
theorem dX12_isOf_0 : decode cX12_isOf 0 = .ok (.iload_n 1, 1) := dk_27 (dk_at dksX12_isOf_0 0 rfl rfl)
theorem dX12_isOf_1 : decode cX12_isOf 1 = .ok (.iconst 3, 1) := dk_6 (dk_at dksX12_isOf_0 1 rfl rfl)
theorem dX12_isOf_2 : decode cX12_isOf 2 = .ok (.if_icmp .eq 11, 3) := dk_159 0 11 (dk_at dksX12_isOf_0 2 rfl rfl)
theorem dX12_isOf_5 : decode cX12_isOf 5 = .ok (.aload_n 0, 1) := dk_42 (dk_at dksX12_isOf_0 5 rfl rfl)
theorem dX12_isOf_6 : decode cX12_isOf 6 = .ok (.iload_n 1, 1) := dk_27 (dk_at dksX12_isOf_0 6 rfl rfl)
theorem dX12_isOf_7 : decode cX12_isOf 7 = .ok (.invokespecial 9, 3) := dk_183 0 9 (dk_at dksX12_isOf_0 7 rfl rfl)
theorem dX12_isOf_10 : decode cX12_isOf 10 = .ok (.ifCond .eq 7, 3) := dk_153 0 7 (dk_at dksX12_isOf_0 10 rfl rfl)
theorem dX12_isOf_13 : decode cX12_isOf 13 = .ok (.iconst 1, 1) := dk_4 (dk_at dksX12_isOf_0 13 rfl rfl)
theorem dX12_isOf_14 : decode cX12_isOf 14 = .ok (.goto 4, 3) := dk_167 0 4 (dk_at dksX12_isOf_0 14 rfl rfl)
theorem dX12_isOf_17 : decode cX12_isOf 17 = .ok (.iconst 0, 1) := dk_3 (dk_at dksX12_isOf_0 17 rfl rfl)
theorem dX12_isOf_18 : decode cX12_isOf 18 = .ok (.ireturn, 1) := dk_172 (dk_at dksX12_isOf_0 18 rfl rfl)
abbrev cX12_knows : ByteArray := prog_10_method_6_code
def yX12_knows : MethodName := ⟨RX12, "knows", "(I)I"⟩
def dkwX12_knows_0 : List UInt8 := [42, 180, 0, 23, 16, 40, 182, 0, 27, 42, 27, 183, 0, 33, 116, 172]
abbrev dktX12_knows_0 : List UInt8 := dkwX12_knows_0 ++ []
theorem dksX12_knows_0 : cX12_knows.data.toList.drop 0 = dktX12_knows_0 := by decide +kernel
theorem dX12_knows_0 : decode cX12_knows 0 = .ok (.aload_n 0, 1) := dk_42 (dk_at dksX12_knows_0 0 rfl rfl)
theorem dX12_knows_1 : decode cX12_knows 1 = .ok (.getfield 23, 3) := dk_180 0 23 (dk_at dksX12_knows_0 1 rfl rfl)
theorem dX12_knows_4 : decode cX12_knows 4 = .ok (.bipush 40, 2) := dk_16 40 (dk_at dksX12_knows_0 4 rfl rfl)
theorem dX12_knows_6 : decode cX12_knows 6 = .ok (.invokevirtual 27, 3) := dk_182 0 27 (dk_at dksX12_knows_0 6 rfl rfl)
theorem dX12_knows_9 : decode cX12_knows 9 = .ok (.aload_n 0, 1) := dk_42 (dk_at dksX12_knows_0 9 rfl rfl)
theorem dX12_knows_10 : decode cX12_knows 10 = .ok (.iload_n 1, 1) := dk_27 (dk_at dksX12_knows_0 10 rfl rfl)
theorem dX12_knows_11 : decode cX12_knows 11 = .ok (.invokespecial 33, 3) := dk_183 0 33 (dk_at dksX12_knows_0 11 rfl rfl)
theorem dX12_knows_14 : decode cX12_knows 14 = .ok (.ineg, 1) := dk_116 (dk_at dksX12_knows_0 14 rfl rfl)
theorem dX12_knows_15 : decode cX12_knows 15 = .ok (.ireturn, 1) := dk_172 (dk_at dksX12_knows_0 15 rfl rfl)
theorem q77 : (Jvm.Cond.initialized "MeadowMilk$Homely") ∈ lw_all := lw_g (lw_at lw_m1 17 rfl) rfl
theorem q421 : (Jvm.Cond.fieldLink "MeadowMilk$Homely" (23 : Nat) "MeadowMilk$Homely" "trace" "LMeadowMilk$Trace;") ∈ lw_all := lw_g (lw_at lw_m2 121 rfl) rfl
theorem q422 : (Jvm.Cond.sameField "MeadowMilk$Homely" "MeadowMilk$Cow" "trace" "LMeadowMilk$Trace;") ∈ lw_all := lw_g (lw_at lw_m2 122 rfl) rfl
theorem q431 : (Jvm.Cond.fieldLink "MeadowMilk$Homely" (17 : Nat) "MeadowMilk$Homely" "m" "I") ∈ lw_all := lw_g (lw_at lw_m2 131 rfl) rfl
theorem q432 : (Jvm.Cond.sameField "MeadowMilk$Homely" "MeadowMilk$Cow" "m" "I") ∈ lw_all := lw_g (lw_at lw_m2 132 rfl) rfl
theorem q458 : (Jvm.Cond.instantiable "MeadowMilk$Homely" (3 : Nat)) ∈ lw_all := lw_g (lw_at lw_m2 158 rfl) rfl
theorem q460 : (Jvm.Cond.instanceMethod ({ cls := "MeadowMilk$Homely", name := "<init>", desc := "(LMeadowMilk$Trace;II)V" } : Jvm.MethodName)) ∈ lw_all := lw_g (lw_at lw_m2 160 rfl) rfl
theorem q461 : (Jvm.Cond.code ({ cls := "MeadowMilk$Homely", name := "<init>", desc := "(LMeadowMilk$Trace;II)V" } : Jvm.MethodName) prog_10_method_1_code (4 : Nat) (Option.none : Option Jvm.ClassFile.FieldType)) ∈ lw_all := lw_g (lw_at lw_m2 161 rfl) rfl
theorem q462 : (Jvm.Cond.methodLink "MeadowMilk$Homely" (3 : Nat) ({ cls := "MeadowMilk$Cow", name := "<init>", desc := "(LMeadowMilk$Trace;II)V" } : Jvm.MethodName)) ∈ lw_all := lw_g (lw_at lw_m2 162 rfl) rfl
theorem q463 : (Jvm.Cond.laysFinal "MeadowMilk$Homely" "MeadowMilk$Cow" "trace" "LMeadowMilk$Trace;") ∈ lw_all := lw_g (lw_at lw_m2 163 rfl) rfl
theorem q464 : (Jvm.Cond.laysFinal "MeadowMilk$Homely" "MeadowMilk$Cow" "number" "I") ∈ lw_all := lw_g (lw_at lw_m2 164 rfl) rfl
theorem q465 : (Jvm.Cond.laysFinal "MeadowMilk$Homely" "MeadowMilk$Cow" "m" "I") ∈ lw_all := lw_g (lw_at lw_m2 165 rfl) rfl
theorem q466 : (Jvm.Cond.superclass "MeadowMilk$Homely" "MeadowMilk$Cow") ∈ lw_all := lw_g (lw_at lw_m2 166 rfl) rfl
theorem q523 : (Jvm.Cond.selects "MeadowMilk$Homely" ({ cls := "MeadowMilk$Cow", name := "kind", desc := "()I" } : Jvm.MethodName) ({ cls := "MeadowMilk$Homely", name := "kind", desc := "()I" } : Jvm.MethodName)) ∈ lw_all := lw_g (lw_at lw_m2 223 rfl) rfl
theorem q524 : (Jvm.Cond.instanceMethod ({ cls := "MeadowMilk$Homely", name := "kind", desc := "()I" } : Jvm.MethodName)) ∈ lw_all := lw_g (lw_at lw_m2 224 rfl) rfl
theorem q525 : (Jvm.Cond.code ({ cls := "MeadowMilk$Homely", name := "kind", desc := "()I" } : Jvm.MethodName) prog_10_method_2_code (1 : Nat) (Option.some Jvm.ClassFile.FieldType.int)) ∈ lw_all := lw_g (lw_at lw_m2 225 rfl) rfl
theorem q546 : (Jvm.Cond.selects "MeadowMilk$Homely" ({ cls := "MeadowMilk$Cow", name := "eaten", desc := "()I" } : Jvm.MethodName) ({ cls := "MeadowMilk$Homely", name := "eaten", desc := "()I" } : Jvm.MethodName)) ∈ lw_all := lw_g (lw_at lw_m3 6 rfl) rfl
theorem q547 : (Jvm.Cond.instanceMethod ({ cls := "MeadowMilk$Homely", name := "eaten", desc := "()I" } : Jvm.MethodName)) ∈ lw_all := lw_g (lw_at lw_m3 7 rfl) rfl
theorem q548 : (Jvm.Cond.code ({ cls := "MeadowMilk$Homely", name := "eaten", desc := "()I" } : Jvm.MethodName) prog_10_method_5_code (1 : Nat) (Option.some Jvm.ClassFile.FieldType.int)) ∈ lw_all := lw_g (lw_at lw_m3 8 rfl) rfl
theorem q562 : (Jvm.Cond.selects "MeadowMilk$Homely" ({ cls := "MeadowMilk$Cow", name := "span", desc := "()I" } : Jvm.MethodName) ({ cls := "MeadowMilk$Cow", name := "span", desc := "()I" } : Jvm.MethodName)) ∈ lw_all := lw_g (lw_at lw_m3 22 rfl) rfl
theorem q601 : (Jvm.Cond.selects "MeadowMilk$Homely" ({ cls := "MeadowMilk$Cow", name := "wanted", desc := "(IIZZ)I" } : Jvm.MethodName) ({ cls := "MeadowMilk$Homely", name := "wanted", desc := "(IIZZ)I" } : Jvm.MethodName)) ∈ lw_all := lw_g (lw_at lw_m3 61 rfl) rfl
theorem q602 : (Jvm.Cond.instanceMethod ({ cls := "MeadowMilk$Homely", name := "wanted", desc := "(IIZZ)I" } : Jvm.MethodName)) ∈ lw_all := lw_g (lw_at lw_m3 62 rfl) rfl
theorem q603 : (Jvm.Cond.code ({ cls := "MeadowMilk$Homely", name := "wanted", desc := "(IIZZ)I" } : Jvm.MethodName) prog_10_method_4_code (5 : Nat) (Option.some Jvm.ClassFile.FieldType.int)) ∈ lw_all := lw_g (lw_at lw_m3 63 rfl) rfl
theorem q604 : (Jvm.Cond.methodLink "MeadowMilk$Homely" (13 : Nat) ({ cls := "MeadowMilk$Cow", name := "wanted", desc := "(IIZZ)I" } : Jvm.MethodName)) ∈ lw_all := lw_g (lw_at lw_m3 64 rfl) rfl
theorem q643 : (Jvm.Cond.selects "MeadowMilk$Homely" ({ cls := "MeadowMilk$Cow", name := "isOf", desc := "(I)Z" } : Jvm.MethodName) ({ cls := "MeadowMilk$Homely", name := "isOf", desc := "(I)Z" } : Jvm.MethodName)) ∈ lw_all := lw_g (lw_at lw_m3 103 rfl) rfl
theorem q644 : (Jvm.Cond.instanceMethod ({ cls := "MeadowMilk$Homely", name := "isOf", desc := "(I)Z" } : Jvm.MethodName)) ∈ lw_all := lw_g (lw_at lw_m3 104 rfl) rfl
theorem q645 : (Jvm.Cond.code ({ cls := "MeadowMilk$Homely", name := "isOf", desc := "(I)Z" } : Jvm.MethodName) prog_10_method_3_code (2 : Nat) (Option.some Jvm.ClassFile.FieldType.boolean)) ∈ lw_all := lw_g (lw_at lw_m3 105 rfl) rfl
theorem q646 : (Jvm.Cond.methodLink "MeadowMilk$Homely" (9 : Nat) ({ cls := "MeadowMilk$Cow", name := "isOf", desc := "(I)Z" } : Jvm.MethodName)) ∈ lw_all := lw_g (lw_at lw_m3 106 rfl) rfl
theorem q1111 : (Jvm.Cond.castable "MeadowMilk$Homely" "MeadowMilk$Wants") ∈ lw_tbl := lw_at lw_m5 91 rfl
theorem q1112 : (Jvm.Cond.selects "MeadowMilk$Homely" ({ cls := "MeadowMilk$Wants", name := "wants", desc := "(I)I" } : Jvm.MethodName) ({ cls := "MeadowMilk$Cow", name := "wants", desc := "(I)I" } : Jvm.MethodName)) ∈ lw_all := lw_g (lw_at lw_m5 92 rfl) rfl
theorem q1113 : (Jvm.Cond.unhidden "MeadowMilk$Homely" "wants" "(I)I") ∈ lw_tbl := lw_at lw_m5 93 rfl
theorem q1157 : (Jvm.Cond.castable "MeadowMilk$Homely" "MeadowMilk$Eats") ∈ lw_tbl := lw_at lw_m5 137 rfl
theorem q1158 : (Jvm.Cond.selects "MeadowMilk$Homely" ({ cls := "MeadowMilk$Eats", name := "eats", desc := "(I)I" } : Jvm.MethodName) ({ cls := "MeadowMilk$Cow", name := "eats", desc := "(I)I" } : Jvm.MethodName)) ∈ lw_all := lw_g (lw_at lw_m5 138 rfl) rfl
theorem q1159 : (Jvm.Cond.unhidden "MeadowMilk$Homely" "eats" "(I)I") ∈ lw_tbl := lw_at lw_m5 139 rfl
theorem q1188 : (Jvm.Cond.castable "MeadowMilk$Homely" "MeadowMilk$Knows") ∈ lw_tbl := lw_at lw_m5 168 rfl
theorem q1189 : (Jvm.Cond.selects "MeadowMilk$Homely" ({ cls := "MeadowMilk$Knows", name := "knows", desc := "(I)I" } : Jvm.MethodName) ({ cls := "MeadowMilk$Homely", name := "knows", desc := "(I)I" } : Jvm.MethodName)) ∈ lw_all := lw_g (lw_at lw_m5 169 rfl) rfl
theorem q1190 : (Jvm.Cond.unhidden "MeadowMilk$Homely" "knows" "(I)I") ∈ lw_tbl := lw_at lw_m5 170 rfl
theorem q1191 : (Jvm.Cond.instanceMethod ({ cls := "MeadowMilk$Homely", name := "knows", desc := "(I)I" } : Jvm.MethodName)) ∈ lw_all := lw_g (lw_at lw_m5 171 rfl) rfl
theorem q1192 : (Jvm.Cond.publicMethod ({ cls := "MeadowMilk$Homely", name := "knows", desc := "(I)I" } : Jvm.MethodName)) ∈ lw_tbl := lw_at lw_m5 172 rfl
theorem q1193 : (Jvm.Cond.code ({ cls := "MeadowMilk$Homely", name := "knows", desc := "(I)I" } : Jvm.MethodName) prog_10_method_6_code (2 : Nat) (Option.some Jvm.ClassFile.FieldType.int)) ∈ lw_all := lw_g (lw_at lw_m5 173 rfl) rfl
theorem q1194 : (Jvm.Cond.methodLink "MeadowMilk$Homely" (27 : Nat) ({ cls := "MeadowMilk$Trace", name := "begins", desc := "(I)V" } : Jvm.MethodName)) ∈ lw_all := lw_g (lw_at lw_m5 174 rfl) rfl
theorem q1195 : (Jvm.Cond.methodLink "MeadowMilk$Homely" (33 : Nat) ({ cls := "MeadowMilk$Cow", name := "knows", desc := "(I)I" } : Jvm.MethodName)) ∈ lw_all := lw_g (lw_at lw_m5 175 rfl) rfl
theorem q1228 : (Jvm.Cond.castable "MeadowMilk$Homely" "MeadowMilk$Tells") ∈ lw_tbl := lw_at lw_m5 208 rfl
theorem q1229 : (Jvm.Cond.selects "MeadowMilk$Homely" ({ cls := "MeadowMilk$Tells", name := "tells", desc := "(I)I" } : Jvm.MethodName) ({ cls := "MeadowMilk$Cow", name := "tells", desc := "(I)I" } : Jvm.MethodName)) ∈ lw_all := lw_g (lw_at lw_m5 209 rfl) rfl
theorem q1230 : (Jvm.Cond.unhidden "MeadowMilk$Homely" "tells" "(I)I") ∈ lw_tbl := lw_at lw_m5 210 rfl
theorem q1245 : (Jvm.Cond.sameMethod "MeadowMilk$Homely" "MeadowMilk$Cow" "tells" "(I)I") ∈ lw_all := lw_g (lw_at lw_m5 225 rfl) rfl
theorem q1832 : (Jvm.Cond.sameMethod "MeadowMilk$Homely" "MeadowMilk$Homely" "wanted" "(IIZZ)I") ∈ lw_all := lw_g (lw_at lw_m8 92 rfl) rfl
theorem q1835 : (Jvm.Cond.sameMethod "MeadowMilk$Homely" "MeadowMilk$Homely" "isOf" "(I)Z") ∈ lw_all := lw_g (lw_at lw_m8 95 rfl) rfl
theorem q1840 : (Jvm.Cond.selects "MeadowMilk$Homely" ({ cls := "MeadowMilk$Cow", name := "wants", desc := "(I)I" } : Jvm.MethodName) ({ cls := "MeadowMilk$Cow", name := "wants", desc := "(I)I" } : Jvm.MethodName)) ∈ lw_all := lw_g (lw_at lw_m8 100 rfl) rfl
theorem q1848 : (Jvm.Cond.sameMethod "MeadowMilk$Homely" "MeadowMilk$Homely" "knows" "(I)I") ∈ lw_all := lw_g (lw_at lw_m8 108 rfl) rfl
theorem q1851 : (Jvm.Cond.selects "MeadowMilk$Homely" ({ cls := "MeadowMilk$Cow", name := "eats", desc := "(I)I" } : Jvm.MethodName) ({ cls := "MeadowMilk$Cow", name := "eats", desc := "(I)I" } : Jvm.MethodName)) ∈ lw_all := lw_g (lw_at lw_m8 111 rfl) rfl
theorem q1858 : (Jvm.Cond.selects "MeadowMilk$Homely" ({ cls := "MeadowMilk$Cow", name := "knows", desc := "(I)I" } : Jvm.MethodName) ({ cls := "MeadowMilk$Homely", name := "knows", desc := "(I)I" } : Jvm.MethodName)) ∈ lw_all := lw_g (lw_at lw_m8 118 rfl) rfl
theorem q1868 : (Jvm.Cond.castable "MeadowMilk$Homely" "MeadowMilk$Cow") ∈ lw_tbl := lw_at lw_m8 128 rfl
theorem in_X12 : ∀ w ∈ wsX120, w ∈ lw_all := lw_in wsX120 [463, 464, 465] (by decide +kernel) (by decide +kernel)
/-! MeadowMilk$Kid -/
set_option maxRecDepth 100000
def RX13 : String := "MeadowMilk$Kid"
def TX13 : u_T := fun k => match k with
  | 0 => ("MeadowMilk$Cow", "trace", "LMeadowMilk$Trace;", true)
  | 1 => ("MeadowMilk$Cow", "number", "I", true)
  | _ => ("MeadowMilk$Cow", "m", "I", true)
def tyX13 : Nat → FieldType := fun k => match k with
  | 0 => .object "MeadowMilk$Trace"
  | 1 => .int
  | _ => .int
abbrev wsX130 : List Cond := u_ws RX13 TX13 3
theorem nmX13 : ∀ a, a < 3 → ∀ b, b < 3 → a ≠ b → (TX13 a).2.1 ≠ (TX13 b).2.1 := by decide +kernel
theorem tyX13_ok : ∀ k, k < 3 → parseFieldDescriptor (TX13 k).2.2.1 = some (tyX13 k) := by decide +kernel
abbrev cX13_init : ByteArray := prog_12_method_1_code
def yX13_init : MethodName := ⟨RX13, "<init>", "(LMeadowMilk$Trace;II)V"⟩
def dkwX13_init_0 : List UInt8 := [42, 43, 28, 29, 183, 0, 3, 177]
abbrev dktX13_init_0 : List UInt8 := dkwX13_init_0 ++ []
theorem dksX13_init_0 : cX13_init.data.toList.drop 0 = dktX13_init_0 := by decide +kernel
theorem dX13_init_0 : decode cX13_init 0 = .ok (.aload_n 0, 1) := dk_42 (dk_at dksX13_init_0 0 rfl rfl)
theorem dX13_init_1 : decode cX13_init 1 = .ok (.aload_n 1, 1) := dk_43 (dk_at dksX13_init_0 1 rfl rfl)
theorem dX13_init_2 : decode cX13_init 2 = .ok (.iload_n 2, 1) := dk_28 (dk_at dksX13_init_0 2 rfl rfl)
theorem dX13_init_3 : decode cX13_init 3 = .ok (.iload_n 3, 1) := dk_29 (dk_at dksX13_init_0 3 rfl rfl)
theorem dX13_init_4 : decode cX13_init 4 = .ok (.invokespecial 3, 3) := dk_183 0 3 (dk_at dksX13_init_0 4 rfl rfl)
theorem dX13_init_7 : decode cX13_init 7 = .ok (.return_, 1) := dk_177 (dk_at dksX13_init_0 7 rfl rfl)
abbrev cX13_kind : ByteArray := prog_12_method_2_code
def yX13_kind : MethodName := ⟨RX13, "kind", "()I"⟩
theorem dX13_kind_0 : decode cX13_kind 0 = .ok (.iconst 4, 1) := by decide +kernel
theorem dX13_kind_1 : decode cX13_kind 1 = .ok (.ireturn, 1) := by decide +kernel
abbrev cX13_eaten : ByteArray := prog_12_method_5_code
def yX13_eaten : MethodName := ⟨RX13, "eaten", "()I"⟩
def dkwX13_eaten_0 : List UInt8 := [42, 183, 0, 17, 5, 108, 172]
abbrev dktX13_eaten_0 : List UInt8 := dkwX13_eaten_0 ++ []
theorem dksX13_eaten_0 : cX13_eaten.data.toList.drop 0 = dktX13_eaten_0 := by decide +kernel
theorem dX13_eaten_0 : decode cX13_eaten 0 = .ok (.aload_n 0, 1) := dk_42 (dk_at dksX13_eaten_0 0 rfl rfl)
theorem dX13_eaten_1 : decode cX13_eaten 1 = .ok (.invokespecial 17, 3) := dk_183 0 17 (dk_at dksX13_eaten_0 1 rfl rfl)
theorem dX13_eaten_4 : decode cX13_eaten 4 = .ok (.iconst 2, 1) := dk_5 (dk_at dksX13_eaten_0 4 rfl rfl)
theorem dX13_eaten_5 : decode cX13_eaten 5 = .ok (.idiv, 1) := dk_108 (dk_at dksX13_eaten_0 5 rfl rfl)
theorem dX13_eaten_6 : decode cX13_eaten 6 = .ok (.ireturn, 1) := dk_172 (dk_at dksX13_eaten_0 6 rfl rfl)
abbrev cX13_span : ByteArray := prog_12_method_6_code
def yX13_span : MethodName := ⟨RX13, "span", "()I"⟩
theorem dX13_span_0 : decode cX13_span 0 = .ok (.iconst 4, 1) := by decide +kernel
theorem dX13_span_1 : decode cX13_span 1 = .ok (.ireturn, 1) := by decide +kernel
abbrev cX13_wanted : ByteArray := prog_12_method_4_code
def yX13_wanted : MethodName := ⟨RX13, "wanted", "(IIZZ)I"⟩
def dkwX13_wanted_0 : List UInt8 := [42, 27, 28, 29, 21, 4, 183, 0, 13, 21, 4, 153, 0, 8, 16, 20, 167, 0, 4, 3, 100, 172]
abbrev dktX13_wanted_0 : List UInt8 := dkwX13_wanted_0 ++ []
theorem dksX13_wanted_0 : cX13_wanted.data.toList.drop 0 = dktX13_wanted_0 := by decide +kernel
theorem dX13_wanted_0 : decode cX13_wanted 0 = .ok (.aload_n 0, 1) := dk_42 (dk_at dksX13_wanted_0 0 rfl rfl)
theorem dX13_wanted_1 : decode cX13_wanted 1 = .ok (.iload_n 1, 1) := dk_27 (dk_at dksX13_wanted_0 1 rfl rfl)
theorem dX13_wanted_2 : decode cX13_wanted 2 = .ok (.iload_n 2, 1) := dk_28 (dk_at dksX13_wanted_0 2 rfl rfl)
theorem dX13_wanted_3 : decode cX13_wanted 3 = .ok (.iload_n 3, 1) := dk_29 (dk_at dksX13_wanted_0 3 rfl rfl)
theorem dX13_wanted_4 : decode cX13_wanted 4 = .ok (.iload 4, 2) := dk_21 4 (dk_at dksX13_wanted_0 4 rfl rfl)
theorem dX13_wanted_6 : decode cX13_wanted 6 = .ok (.invokespecial 13, 3) := dk_183 0 13 (dk_at dksX13_wanted_0 6 rfl rfl)
theorem dX13_wanted_9 : decode cX13_wanted 9 = .ok (.iload 4, 2) := dk_21 4 (dk_at dksX13_wanted_0 9 rfl rfl)
theorem dX13_wanted_11 : decode cX13_wanted 11 = .ok (.ifCond .eq 8, 3) := dk_153 0 8 (dk_at dksX13_wanted_0 11 rfl rfl)
theorem dX13_wanted_14 : decode cX13_wanted 14 = .ok (.bipush 20, 2) := dk_16 20 (dk_at dksX13_wanted_0 14 rfl rfl)
theorem dX13_wanted_16 : decode cX13_wanted 16 = .ok (.goto 4, 3) := dk_167 0 4 (dk_at dksX13_wanted_0 16 rfl rfl)
theorem dX13_wanted_19 : decode cX13_wanted 19 = .ok (.iconst 0, 1) := dk_3 (dk_at dksX13_wanted_0 19 rfl rfl)
theorem dX13_wanted_20 : decode cX13_wanted 20 = .ok (.isub, 1) := dk_100 (dk_at dksX13_wanted_0 20 rfl rfl)
theorem dX13_wanted_21 : decode cX13_wanted 21 = .ok (.ireturn, 1) := dk_172 (dk_at dksX13_wanted_0 21 rfl rfl)
abbrev cX13_isOf : ByteArray := prog_12_method_3_code
def yX13_isOf : MethodName := ⟨RX13, "isOf", "(I)Z"⟩
def dkwX13_isOf_0 : List UInt8 := [27, 7, 159, 0, 11, 42, 27, 183, 0, 9, 153, 0, 7, 4, 167, 0, 4, 3, 172]
abbrev dktX13_isOf_0 : List UInt8 := dkwX13_isOf_0 ++ []
theorem dksX13_isOf_0 : cX13_isOf.data.toList.drop 0 = dktX13_isOf_0 := by decide +kernel
theorem dX13_isOf_0 : decode cX13_isOf 0 = .ok (.iload_n 1, 1) := dk_27 (dk_at dksX13_isOf_0 0 rfl rfl)
theorem dX13_isOf_1 : decode cX13_isOf 1 = .ok (.iconst 4, 1) := dk_7 (dk_at dksX13_isOf_0 1 rfl rfl)
theorem dX13_isOf_2 : decode cX13_isOf 2 = .ok (.if_icmp .eq 11, 3) := dk_159 0 11 (dk_at dksX13_isOf_0 2 rfl rfl)
theorem dX13_isOf_5 : decode cX13_isOf 5 = .ok (.aload_n 0, 1) := dk_42 (dk_at dksX13_isOf_0 5 rfl rfl)
theorem dX13_isOf_6 : decode cX13_isOf 6 = .ok (.iload_n 1, 1) := dk_27 (dk_at dksX13_isOf_0 6 rfl rfl)
theorem dX13_isOf_7 : decode cX13_isOf 7 = .ok (.invokespecial 9, 3) := dk_183 0 9 (dk_at dksX13_isOf_0 7 rfl rfl)
theorem dX13_isOf_10 : decode cX13_isOf 10 = .ok (.ifCond .eq 7, 3) := dk_153 0 7 (dk_at dksX13_isOf_0 10 rfl rfl)
theorem dX13_isOf_13 : decode cX13_isOf 13 = .ok (.iconst 1, 1) := dk_4 (dk_at dksX13_isOf_0 13 rfl rfl)
theorem dX13_isOf_14 : decode cX13_isOf 14 = .ok (.goto 4, 3) := dk_167 0 4 (dk_at dksX13_isOf_0 14 rfl rfl)
theorem dX13_isOf_17 : decode cX13_isOf 17 = .ok (.iconst 0, 1) := dk_3 (dk_at dksX13_isOf_0 17 rfl rfl)
theorem dX13_isOf_18 : decode cX13_isOf 18 = .ok (.ireturn, 1) := dk_172 (dk_at dksX13_isOf_0 18 rfl rfl)
abbrev cX13_eats : ByteArray := prog_12_method_7_code
def yX13_eats : MethodName := ⟨RX13, "eats", "(I)I"⟩
def dkwX13_eats_0 : List UInt8 := [42, 180, 0, 21, 16, 50, 182, 0, 27, 42, 27, 4, 96, 183, 0, 33, 172]
abbrev dktX13_eats_0 : List UInt8 := dkwX13_eats_0 ++ []
theorem dksX13_eats_0 : cX13_eats.data.toList.drop 0 = dktX13_eats_0 := by decide +kernel
theorem dX13_eats_0 : decode cX13_eats 0 = .ok (.aload_n 0, 1) := dk_42 (dk_at dksX13_eats_0 0 rfl rfl)
theorem dX13_eats_1 : decode cX13_eats 1 = .ok (.getfield 21, 3) := dk_180 0 21 (dk_at dksX13_eats_0 1 rfl rfl)
theorem dX13_eats_4 : decode cX13_eats 4 = .ok (.bipush 50, 2) := dk_16 50 (dk_at dksX13_eats_0 4 rfl rfl)
theorem dX13_eats_6 : decode cX13_eats 6 = .ok (.invokevirtual 27, 3) := dk_182 0 27 (dk_at dksX13_eats_0 6 rfl rfl)
theorem dX13_eats_9 : decode cX13_eats 9 = .ok (.aload_n 0, 1) := dk_42 (dk_at dksX13_eats_0 9 rfl rfl)
theorem dX13_eats_10 : decode cX13_eats 10 = .ok (.iload_n 1, 1) := dk_27 (dk_at dksX13_eats_0 10 rfl rfl)
theorem dX13_eats_11 : decode cX13_eats 11 = .ok (.iconst 1, 1) := dk_4 (dk_at dksX13_eats_0 11 rfl rfl)
theorem dX13_eats_12 : decode cX13_eats 12 = .ok (.iadd, 1) := dk_96 (dk_at dksX13_eats_0 12 rfl rfl)
theorem dX13_eats_13 : decode cX13_eats 13 = .ok (.invokespecial 33, 3) := dk_183 0 33 (dk_at dksX13_eats_0 13 rfl rfl)
theorem dX13_eats_16 : decode cX13_eats 16 = .ok (.ireturn, 1) := dk_172 (dk_at dksX13_eats_0 16 rfl rfl)
theorem q78 : (Jvm.Cond.initialized "MeadowMilk$Kid") ∈ lw_all := lw_g (lw_at lw_m1 18 rfl) rfl
theorem q425 : (Jvm.Cond.fieldLink "MeadowMilk$Kid" (21 : Nat) "MeadowMilk$Kid" "trace" "LMeadowMilk$Trace;") ∈ lw_all := lw_g (lw_at lw_m2 125 rfl) rfl
theorem q426 : (Jvm.Cond.sameField "MeadowMilk$Kid" "MeadowMilk$Cow" "trace" "LMeadowMilk$Trace;") ∈ lw_all := lw_g (lw_at lw_m2 126 rfl) rfl
theorem q468 : (Jvm.Cond.instantiable "MeadowMilk$Kid" (3 : Nat)) ∈ lw_all := lw_g (lw_at lw_m2 168 rfl) rfl
theorem q470 : (Jvm.Cond.instanceMethod ({ cls := "MeadowMilk$Kid", name := "<init>", desc := "(LMeadowMilk$Trace;II)V" } : Jvm.MethodName)) ∈ lw_all := lw_g (lw_at lw_m2 170 rfl) rfl
theorem q471 : (Jvm.Cond.code ({ cls := "MeadowMilk$Kid", name := "<init>", desc := "(LMeadowMilk$Trace;II)V" } : Jvm.MethodName) prog_12_method_1_code (4 : Nat) (Option.none : Option Jvm.ClassFile.FieldType)) ∈ lw_all := lw_g (lw_at lw_m2 171 rfl) rfl
theorem q472 : (Jvm.Cond.methodLink "MeadowMilk$Kid" (3 : Nat) ({ cls := "MeadowMilk$Goat", name := "<init>", desc := "(LMeadowMilk$Trace;II)V" } : Jvm.MethodName)) ∈ lw_all := lw_g (lw_at lw_m2 172 rfl) rfl
theorem q473 : (Jvm.Cond.laysFinal "MeadowMilk$Kid" "MeadowMilk$Cow" "trace" "LMeadowMilk$Trace;") ∈ lw_all := lw_g (lw_at lw_m2 173 rfl) rfl
theorem q474 : (Jvm.Cond.laysFinal "MeadowMilk$Kid" "MeadowMilk$Cow" "number" "I") ∈ lw_all := lw_g (lw_at lw_m2 174 rfl) rfl
theorem q475 : (Jvm.Cond.laysFinal "MeadowMilk$Kid" "MeadowMilk$Cow" "m" "I") ∈ lw_all := lw_g (lw_at lw_m2 175 rfl) rfl
theorem q476 : (Jvm.Cond.superclass "MeadowMilk$Kid" "MeadowMilk$Goat") ∈ lw_all := lw_g (lw_at lw_m2 176 rfl) rfl
theorem q526 : (Jvm.Cond.selects "MeadowMilk$Kid" ({ cls := "MeadowMilk$Cow", name := "kind", desc := "()I" } : Jvm.MethodName) ({ cls := "MeadowMilk$Kid", name := "kind", desc := "()I" } : Jvm.MethodName)) ∈ lw_all := lw_g (lw_at lw_m2 226 rfl) rfl
theorem q527 : (Jvm.Cond.instanceMethod ({ cls := "MeadowMilk$Kid", name := "kind", desc := "()I" } : Jvm.MethodName)) ∈ lw_all := lw_g (lw_at lw_m2 227 rfl) rfl
theorem q528 : (Jvm.Cond.code ({ cls := "MeadowMilk$Kid", name := "kind", desc := "()I" } : Jvm.MethodName) prog_12_method_2_code (1 : Nat) (Option.some Jvm.ClassFile.FieldType.int)) ∈ lw_all := lw_g (lw_at lw_m2 228 rfl) rfl
theorem q549 : (Jvm.Cond.selects "MeadowMilk$Kid" ({ cls := "MeadowMilk$Cow", name := "eaten", desc := "()I" } : Jvm.MethodName) ({ cls := "MeadowMilk$Kid", name := "eaten", desc := "()I" } : Jvm.MethodName)) ∈ lw_all := lw_g (lw_at lw_m3 9 rfl) rfl
theorem q550 : (Jvm.Cond.instanceMethod ({ cls := "MeadowMilk$Kid", name := "eaten", desc := "()I" } : Jvm.MethodName)) ∈ lw_all := lw_g (lw_at lw_m3 10 rfl) rfl
theorem q551 : (Jvm.Cond.code ({ cls := "MeadowMilk$Kid", name := "eaten", desc := "()I" } : Jvm.MethodName) prog_12_method_5_code (1 : Nat) (Option.some Jvm.ClassFile.FieldType.int)) ∈ lw_all := lw_g (lw_at lw_m3 11 rfl) rfl
theorem q552 : (Jvm.Cond.methodLink "MeadowMilk$Kid" (17 : Nat) ({ cls := "MeadowMilk$Goat", name := "eaten", desc := "()I" } : Jvm.MethodName)) ∈ lw_all := lw_g (lw_at lw_m3 12 rfl) rfl
theorem q563 : (Jvm.Cond.selects "MeadowMilk$Kid" ({ cls := "MeadowMilk$Cow", name := "span", desc := "()I" } : Jvm.MethodName) ({ cls := "MeadowMilk$Kid", name := "span", desc := "()I" } : Jvm.MethodName)) ∈ lw_all := lw_g (lw_at lw_m3 23 rfl) rfl
theorem q564 : (Jvm.Cond.instanceMethod ({ cls := "MeadowMilk$Kid", name := "span", desc := "()I" } : Jvm.MethodName)) ∈ lw_all := lw_g (lw_at lw_m3 24 rfl) rfl
theorem q565 : (Jvm.Cond.code ({ cls := "MeadowMilk$Kid", name := "span", desc := "()I" } : Jvm.MethodName) prog_12_method_6_code (1 : Nat) (Option.some Jvm.ClassFile.FieldType.int)) ∈ lw_all := lw_g (lw_at lw_m3 25 rfl) rfl
theorem q605 : (Jvm.Cond.selects "MeadowMilk$Kid" ({ cls := "MeadowMilk$Cow", name := "wanted", desc := "(IIZZ)I" } : Jvm.MethodName) ({ cls := "MeadowMilk$Kid", name := "wanted", desc := "(IIZZ)I" } : Jvm.MethodName)) ∈ lw_all := lw_g (lw_at lw_m3 65 rfl) rfl
theorem q606 : (Jvm.Cond.instanceMethod ({ cls := "MeadowMilk$Kid", name := "wanted", desc := "(IIZZ)I" } : Jvm.MethodName)) ∈ lw_all := lw_g (lw_at lw_m3 66 rfl) rfl
theorem q607 : (Jvm.Cond.code ({ cls := "MeadowMilk$Kid", name := "wanted", desc := "(IIZZ)I" } : Jvm.MethodName) prog_12_method_4_code (5 : Nat) (Option.some Jvm.ClassFile.FieldType.int)) ∈ lw_all := lw_g (lw_at lw_m3 67 rfl) rfl
theorem q608 : (Jvm.Cond.methodLink "MeadowMilk$Kid" (13 : Nat) ({ cls := "MeadowMilk$Goat", name := "wanted", desc := "(IIZZ)I" } : Jvm.MethodName)) ∈ lw_all := lw_g (lw_at lw_m3 68 rfl) rfl
theorem q647 : (Jvm.Cond.selects "MeadowMilk$Kid" ({ cls := "MeadowMilk$Cow", name := "isOf", desc := "(I)Z" } : Jvm.MethodName) ({ cls := "MeadowMilk$Kid", name := "isOf", desc := "(I)Z" } : Jvm.MethodName)) ∈ lw_all := lw_g (lw_at lw_m3 107 rfl) rfl
theorem q648 : (Jvm.Cond.instanceMethod ({ cls := "MeadowMilk$Kid", name := "isOf", desc := "(I)Z" } : Jvm.MethodName)) ∈ lw_all := lw_g (lw_at lw_m3 108 rfl) rfl
theorem q649 : (Jvm.Cond.code ({ cls := "MeadowMilk$Kid", name := "isOf", desc := "(I)Z" } : Jvm.MethodName) prog_12_method_3_code (2 : Nat) (Option.some Jvm.ClassFile.FieldType.boolean)) ∈ lw_all := lw_g (lw_at lw_m3 109 rfl) rfl
theorem q650 : (Jvm.Cond.methodLink "MeadowMilk$Kid" (9 : Nat) ({ cls := "MeadowMilk$Goat", name := "isOf", desc := "(I)Z" } : Jvm.MethodName)) ∈ lw_all := lw_g (lw_at lw_m3 110 rfl) rfl
theorem q1114 : (Jvm.Cond.castable "MeadowMilk$Kid" "MeadowMilk$Wants") ∈ lw_tbl := lw_at lw_m5 94 rfl
theorem q1115 : (Jvm.Cond.selects "MeadowMilk$Kid" ({ cls := "MeadowMilk$Wants", name := "wants", desc := "(I)I" } : Jvm.MethodName) ({ cls := "MeadowMilk$Cow", name := "wants", desc := "(I)I" } : Jvm.MethodName)) ∈ lw_all := lw_g (lw_at lw_m5 95 rfl) rfl
theorem q1116 : (Jvm.Cond.unhidden "MeadowMilk$Kid" "wants" "(I)I") ∈ lw_tbl := lw_at lw_m5 96 rfl
theorem q1154 : (Jvm.Cond.selects "MeadowMilk$Kid" ({ cls := "MeadowMilk$Goat", name := "knows", desc := "(I)I" } : Jvm.MethodName) ({ cls := "MeadowMilk$Cow", name := "knows", desc := "(I)I" } : Jvm.MethodName)) ∈ lw_all := lw_g (lw_at lw_m5 134 rfl) rfl
theorem q1160 : (Jvm.Cond.castable "MeadowMilk$Kid" "MeadowMilk$Eats") ∈ lw_tbl := lw_at lw_m5 140 rfl
theorem q1161 : (Jvm.Cond.selects "MeadowMilk$Kid" ({ cls := "MeadowMilk$Eats", name := "eats", desc := "(I)I" } : Jvm.MethodName) ({ cls := "MeadowMilk$Kid", name := "eats", desc := "(I)I" } : Jvm.MethodName)) ∈ lw_all := lw_g (lw_at lw_m5 141 rfl) rfl
theorem q1162 : (Jvm.Cond.unhidden "MeadowMilk$Kid" "eats" "(I)I") ∈ lw_tbl := lw_at lw_m5 142 rfl
theorem q1163 : (Jvm.Cond.instanceMethod ({ cls := "MeadowMilk$Kid", name := "eats", desc := "(I)I" } : Jvm.MethodName)) ∈ lw_all := lw_g (lw_at lw_m5 143 rfl) rfl
theorem q1164 : (Jvm.Cond.publicMethod ({ cls := "MeadowMilk$Kid", name := "eats", desc := "(I)I" } : Jvm.MethodName)) ∈ lw_tbl := lw_at lw_m5 144 rfl
theorem q1165 : (Jvm.Cond.code ({ cls := "MeadowMilk$Kid", name := "eats", desc := "(I)I" } : Jvm.MethodName) prog_12_method_7_code (2 : Nat) (Option.some Jvm.ClassFile.FieldType.int)) ∈ lw_all := lw_g (lw_at lw_m5 145 rfl) rfl
theorem q1166 : (Jvm.Cond.methodLink "MeadowMilk$Kid" (27 : Nat) ({ cls := "MeadowMilk$Trace", name := "begins", desc := "(I)V" } : Jvm.MethodName)) ∈ lw_all := lw_g (lw_at lw_m5 146 rfl) rfl
theorem q1167 : (Jvm.Cond.methodLink "MeadowMilk$Kid" (33 : Nat) ({ cls := "MeadowMilk$Goat", name := "eats", desc := "(I)I" } : Jvm.MethodName)) ∈ lw_all := lw_g (lw_at lw_m5 147 rfl) rfl
theorem q1196 : (Jvm.Cond.castable "MeadowMilk$Kid" "MeadowMilk$Knows") ∈ lw_tbl := lw_at lw_m5 176 rfl
theorem q1197 : (Jvm.Cond.selects "MeadowMilk$Kid" ({ cls := "MeadowMilk$Knows", name := "knows", desc := "(I)I" } : Jvm.MethodName) ({ cls := "MeadowMilk$Cow", name := "knows", desc := "(I)I" } : Jvm.MethodName)) ∈ lw_all := lw_g (lw_at lw_m5 177 rfl) rfl
theorem q1198 : (Jvm.Cond.unhidden "MeadowMilk$Kid" "knows" "(I)I") ∈ lw_tbl := lw_at lw_m5 178 rfl
theorem q1231 : (Jvm.Cond.castable "MeadowMilk$Kid" "MeadowMilk$Tells") ∈ lw_tbl := lw_at lw_m5 211 rfl
theorem q1232 : (Jvm.Cond.selects "MeadowMilk$Kid" ({ cls := "MeadowMilk$Tells", name := "tells", desc := "(I)I" } : Jvm.MethodName) ({ cls := "MeadowMilk$Cow", name := "tells", desc := "(I)I" } : Jvm.MethodName)) ∈ lw_all := lw_g (lw_at lw_m5 212 rfl) rfl
theorem q1233 : (Jvm.Cond.unhidden "MeadowMilk$Kid" "tells" "(I)I") ∈ lw_tbl := lw_at lw_m5 213 rfl
theorem q1841 : (Jvm.Cond.selects "MeadowMilk$Kid" ({ cls := "MeadowMilk$Cow", name := "wants", desc := "(I)I" } : Jvm.MethodName) ({ cls := "MeadowMilk$Cow", name := "wants", desc := "(I)I" } : Jvm.MethodName)) ∈ lw_all := lw_g (lw_at lw_m8 101 rfl) rfl
theorem q1852 : (Jvm.Cond.selects "MeadowMilk$Kid" ({ cls := "MeadowMilk$Cow", name := "eats", desc := "(I)I" } : Jvm.MethodName) ({ cls := "MeadowMilk$Kid", name := "eats", desc := "(I)I" } : Jvm.MethodName)) ∈ lw_all := lw_g (lw_at lw_m8 112 rfl) rfl
theorem q1859 : (Jvm.Cond.selects "MeadowMilk$Kid" ({ cls := "MeadowMilk$Cow", name := "knows", desc := "(I)I" } : Jvm.MethodName) ({ cls := "MeadowMilk$Cow", name := "knows", desc := "(I)I" } : Jvm.MethodName)) ∈ lw_all := lw_g (lw_at lw_m8 119 rfl) rfl
theorem q1869 : (Jvm.Cond.castable "MeadowMilk$Kid" "MeadowMilk$Cow") ∈ lw_tbl := lw_at lw_m8 129 rfl
theorem in_X13 : ∀ w ∈ wsX130, w ∈ lw_all := lw_in wsX130 [473, 474, 475] (by decide +kernel) (by decide +kernel)
/-! MeadowMilk$Scout -/
set_option maxRecDepth 100000
def RX14 : String := "MeadowMilk$Scout"
def TX14 : u_T := fun k => match k with
  | 0 => ("MeadowMilk$Cow", "trace", "LMeadowMilk$Trace;", true)
  | 1 => ("MeadowMilk$Cow", "number", "I", true)
  | _ => ("MeadowMilk$Cow", "m", "I", true)
def tyX14 : Nat → FieldType := fun k => match k with
  | 0 => .object "MeadowMilk$Trace"
  | 1 => .int
  | _ => .int
abbrev wsX140 : List Cond := u_ws RX14 TX14 3
theorem nmX14 : ∀ a, a < 3 → ∀ b, b < 3 → a ≠ b → (TX14 a).2.1 ≠ (TX14 b).2.1 := by decide +kernel
theorem tyX14_ok : ∀ k, k < 3 → parseFieldDescriptor (TX14 k).2.2.1 = some (tyX14 k) := by decide +kernel
abbrev cX14_init : ByteArray := prog_18_method_1_code
def yX14_init : MethodName := ⟨RX14, "<init>", "(LMeadowMilk$Trace;II)V"⟩
def dkwX14_init_0 : List UInt8 := [42, 43, 28, 29, 183, 0, 3, 177]
abbrev dktX14_init_0 : List UInt8 := dkwX14_init_0 ++ []
theorem dksX14_init_0 : cX14_init.data.toList.drop 0 = dktX14_init_0 := by decide +kernel
theorem dX14_init_0 : decode cX14_init 0 = .ok (.aload_n 0, 1) := dk_42 (dk_at dksX14_init_0 0 rfl rfl)
theorem dX14_init_1 : decode cX14_init 1 = .ok (.aload_n 1, 1) := dk_43 (dk_at dksX14_init_0 1 rfl rfl)
theorem dX14_init_2 : decode cX14_init 2 = .ok (.iload_n 2, 1) := dk_28 (dk_at dksX14_init_0 2 rfl rfl)
theorem dX14_init_3 : decode cX14_init 3 = .ok (.iload_n 3, 1) := dk_29 (dk_at dksX14_init_0 3 rfl rfl)
theorem dX14_init_4 : decode cX14_init 4 = .ok (.invokespecial 3, 3) := dk_183 0 3 (dk_at dksX14_init_0 4 rfl rfl)
theorem dX14_init_7 : decode cX14_init 7 = .ok (.return_, 1) := dk_177 (dk_at dksX14_init_0 7 rfl rfl)
abbrev cX14_kind : ByteArray := prog_18_method_2_code
def yX14_kind : MethodName := ⟨RX14, "kind", "()I"⟩
theorem dX14_kind_0 : decode cX14_kind 0 = .ok (.iconst 5, 1) := by decide +kernel
theorem dX14_kind_1 : decode cX14_kind 1 = .ok (.ireturn, 1) := by decide +kernel
abbrev cX14_wanted : ByteArray := prog_18_method_4_code
def yX14_wanted : MethodName := ⟨RX14, "wanted", "(IIZZ)I"⟩
def dkwX14_wanted_1 : List UInt8 := [172]
abbrev dktX14_wanted_1 : List UInt8 := dkwX14_wanted_1 ++ []
def dkwX14_wanted_0 : List UInt8 := [42, 27, 28, 29, 21, 4, 183, 0, 13, 29, 153, 0, 7, 3, 167, 0, 9, 8, 42, 180, 0, 17, 104, 96]
abbrev dktX14_wanted_0 : List UInt8 := dkwX14_wanted_0 ++ dktX14_wanted_1
theorem dksX14_wanted_0 : cX14_wanted.data.toList.drop 0 = dktX14_wanted_0 := by decide +kernel
theorem dksX14_wanted_1 : cX14_wanted.data.toList.drop 24 = dktX14_wanted_1 := dk_seg dksX14_wanted_0 24 rfl rfl
theorem dX14_wanted_0 : decode cX14_wanted 0 = .ok (.aload_n 0, 1) := dk_42 (dk_at dksX14_wanted_0 0 rfl rfl)
theorem dX14_wanted_1 : decode cX14_wanted 1 = .ok (.iload_n 1, 1) := dk_27 (dk_at dksX14_wanted_0 1 rfl rfl)
theorem dX14_wanted_2 : decode cX14_wanted 2 = .ok (.iload_n 2, 1) := dk_28 (dk_at dksX14_wanted_0 2 rfl rfl)
theorem dX14_wanted_3 : decode cX14_wanted 3 = .ok (.iload_n 3, 1) := dk_29 (dk_at dksX14_wanted_0 3 rfl rfl)
theorem dX14_wanted_4 : decode cX14_wanted 4 = .ok (.iload 4, 2) := dk_21 4 (dk_at dksX14_wanted_0 4 rfl rfl)
theorem dX14_wanted_6 : decode cX14_wanted 6 = .ok (.invokespecial 13, 3) := dk_183 0 13 (dk_at dksX14_wanted_0 6 rfl rfl)
theorem dX14_wanted_9 : decode cX14_wanted 9 = .ok (.iload_n 3, 1) := dk_29 (dk_at dksX14_wanted_0 9 rfl rfl)
theorem dX14_wanted_10 : decode cX14_wanted 10 = .ok (.ifCond .eq 7, 3) := dk_153 0 7 (dk_at dksX14_wanted_0 10 rfl rfl)
theorem dX14_wanted_13 : decode cX14_wanted 13 = .ok (.iconst 0, 1) := dk_3 (dk_at dksX14_wanted_0 13 rfl rfl)
theorem dX14_wanted_14 : decode cX14_wanted 14 = .ok (.goto 9, 3) := dk_167 0 9 (dk_at dksX14_wanted_0 14 rfl rfl)
theorem dX14_wanted_17 : decode cX14_wanted 17 = .ok (.iconst 5, 1) := dk_8 (dk_at dksX14_wanted_0 17 rfl rfl)
theorem dX14_wanted_18 : decode cX14_wanted 18 = .ok (.aload_n 0, 1) := dk_42 (dk_at dksX14_wanted_0 18 rfl rfl)
theorem dX14_wanted_19 : decode cX14_wanted 19 = .ok (.getfield 17, 3) := dk_180 0 17 (dk_at dksX14_wanted_0 19 rfl rfl)
theorem dX14_wanted_22 : decode cX14_wanted 22 = .ok (.imul, 1) := dk_104 (dk_at dksX14_wanted_0 22 rfl rfl)
theorem dX14_wanted_23 : decode cX14_wanted 23 = .ok (.iadd, 1) := dk_96 (dk_at dksX14_wanted_0 23 rfl rfl)
theorem dX14_wanted_24 : decode cX14_wanted 24 = .ok (.ireturn, 1) := dk_172 (dk_at dksX14_wanted_1 0 rfl rfl)
abbrev cX14_isOf : ByteArray := prog_18_method_3_code
def yX14_isOf : MethodName := ⟨RX14, "isOf", "(I)Z"⟩
def dkwX14_isOf_0 : List UInt8 := [27, 8, 159, 0, 11, 42, 27, 183, 0, 9, 153, 0, 7, 4, 167, 0, 4, 3, 172]
abbrev dktX14_isOf_0 : List UInt8 := dkwX14_isOf_0 ++ []
theorem dksX14_isOf_0 : cX14_isOf.data.toList.drop 0 = dktX14_isOf_0 := by decide +kernel
theorem dX14_isOf_0 : decode cX14_isOf 0 = .ok (.iload_n 1, 1) := dk_27 (dk_at dksX14_isOf_0 0 rfl rfl)
theorem dX14_isOf_1 : decode cX14_isOf 1 = .ok (.iconst 5, 1) := dk_8 (dk_at dksX14_isOf_0 1 rfl rfl)
theorem dX14_isOf_2 : decode cX14_isOf 2 = .ok (.if_icmp .eq 11, 3) := dk_159 0 11 (dk_at dksX14_isOf_0 2 rfl rfl)
theorem dX14_isOf_5 : decode cX14_isOf 5 = .ok (.aload_n 0, 1) := dk_42 (dk_at dksX14_isOf_0 5 rfl rfl)
theorem dX14_isOf_6 : decode cX14_isOf 6 = .ok (.iload_n 1, 1) := dk_27 (dk_at dksX14_isOf_0 6 rfl rfl)
theorem dX14_isOf_7 : decode cX14_isOf 7 = .ok (.invokespecial 9, 3) := dk_183 0 9 (dk_at dksX14_isOf_0 7 rfl rfl)
theorem dX14_isOf_10 : decode cX14_isOf 10 = .ok (.ifCond .eq 7, 3) := dk_153 0 7 (dk_at dksX14_isOf_0 10 rfl rfl)
theorem dX14_isOf_13 : decode cX14_isOf 13 = .ok (.iconst 1, 1) := dk_4 (dk_at dksX14_isOf_0 13 rfl rfl)
theorem dX14_isOf_14 : decode cX14_isOf 14 = .ok (.goto 4, 3) := dk_167 0 4 (dk_at dksX14_isOf_0 14 rfl rfl)
theorem dX14_isOf_17 : decode cX14_isOf 17 = .ok (.iconst 0, 1) := dk_3 (dk_at dksX14_isOf_0 17 rfl rfl)
theorem dX14_isOf_18 : decode cX14_isOf 18 = .ok (.ireturn, 1) := dk_172 (dk_at dksX14_isOf_0 18 rfl rfl)
abbrev cX14_tells : ByteArray := prog_18_method_5_code
def yX14_tells : MethodName := ⟨RX14, "tells", "(I)I"⟩
def dkwX14_tells_0 : List UInt8 := [42, 180, 0, 23, 16, 60, 182, 0, 27, 42, 27, 183, 0, 33, 61, 28, 42, 5, 182, 0, 37, 100, 172]
abbrev dktX14_tells_0 : List UInt8 := dkwX14_tells_0 ++ []
theorem dksX14_tells_0 : cX14_tells.data.toList.drop 0 = dktX14_tells_0 := by decide +kernel
theorem dX14_tells_0 : decode cX14_tells 0 = .ok (.aload_n 0, 1) := dk_42 (dk_at dksX14_tells_0 0 rfl rfl)
theorem dX14_tells_1 : decode cX14_tells 1 = .ok (.getfield 23, 3) := dk_180 0 23 (dk_at dksX14_tells_0 1 rfl rfl)
theorem dX14_tells_4 : decode cX14_tells 4 = .ok (.bipush 60, 2) := dk_16 60 (dk_at dksX14_tells_0 4 rfl rfl)
theorem dX14_tells_6 : decode cX14_tells 6 = .ok (.invokevirtual 27, 3) := dk_182 0 27 (dk_at dksX14_tells_0 6 rfl rfl)
theorem dX14_tells_9 : decode cX14_tells 9 = .ok (.aload_n 0, 1) := dk_42 (dk_at dksX14_tells_0 9 rfl rfl)
theorem dX14_tells_10 : decode cX14_tells 10 = .ok (.iload_n 1, 1) := dk_27 (dk_at dksX14_tells_0 10 rfl rfl)
theorem dX14_tells_11 : decode cX14_tells 11 = .ok (.invokespecial 33, 3) := dk_183 0 33 (dk_at dksX14_tells_0 11 rfl rfl)
theorem dX14_tells_14 : decode cX14_tells 14 = .ok (.istore_n 2, 1) := dk_61 (dk_at dksX14_tells_0 14 rfl rfl)
theorem dX14_tells_15 : decode cX14_tells 15 = .ok (.iload_n 2, 1) := dk_28 (dk_at dksX14_tells_0 15 rfl rfl)
theorem dX14_tells_16 : decode cX14_tells 16 = .ok (.aload_n 0, 1) := dk_42 (dk_at dksX14_tells_0 16 rfl rfl)
theorem dX14_tells_17 : decode cX14_tells 17 = .ok (.iconst 2, 1) := dk_5 (dk_at dksX14_tells_0 17 rfl rfl)
theorem dX14_tells_18 : decode cX14_tells 18 = .ok (.invokevirtual 37, 3) := dk_182 0 37 (dk_at dksX14_tells_0 18 rfl rfl)
theorem dX14_tells_21 : decode cX14_tells 21 = .ok (.isub, 1) := dk_100 (dk_at dksX14_tells_0 21 rfl rfl)
theorem dX14_tells_22 : decode cX14_tells 22 = .ok (.ireturn, 1) := dk_172 (dk_at dksX14_tells_0 22 rfl rfl)
theorem q79 : (Jvm.Cond.initialized "MeadowMilk$Scout") ∈ lw_all := lw_g (lw_at lw_m1 19 rfl) rfl
theorem q415 : (Jvm.Cond.fieldLink "MeadowMilk$Scout" (23 : Nat) "MeadowMilk$Scout" "trace" "LMeadowMilk$Trace;") ∈ lw_all := lw_g (lw_at lw_m2 115 rfl) rfl
theorem q416 : (Jvm.Cond.sameField "MeadowMilk$Scout" "MeadowMilk$Cow" "trace" "LMeadowMilk$Trace;") ∈ lw_all := lw_g (lw_at lw_m2 116 rfl) rfl
theorem q433 : (Jvm.Cond.fieldLink "MeadowMilk$Scout" (17 : Nat) "MeadowMilk$Scout" "m" "I") ∈ lw_all := lw_g (lw_at lw_m2 133 rfl) rfl
theorem q434 : (Jvm.Cond.sameField "MeadowMilk$Scout" "MeadowMilk$Cow" "m" "I") ∈ lw_all := lw_g (lw_at lw_m2 134 rfl) rfl
theorem q478 : (Jvm.Cond.instantiable "MeadowMilk$Scout" (3 : Nat)) ∈ lw_all := lw_g (lw_at lw_m2 178 rfl) rfl
theorem q480 : (Jvm.Cond.instanceMethod ({ cls := "MeadowMilk$Scout", name := "<init>", desc := "(LMeadowMilk$Trace;II)V" } : Jvm.MethodName)) ∈ lw_all := lw_g (lw_at lw_m2 180 rfl) rfl
theorem q481 : (Jvm.Cond.code ({ cls := "MeadowMilk$Scout", name := "<init>", desc := "(LMeadowMilk$Trace;II)V" } : Jvm.MethodName) prog_18_method_1_code (4 : Nat) (Option.none : Option Jvm.ClassFile.FieldType)) ∈ lw_all := lw_g (lw_at lw_m2 181 rfl) rfl
theorem q482 : (Jvm.Cond.methodLink "MeadowMilk$Scout" (3 : Nat) ({ cls := "MeadowMilk$Wanderer", name := "<init>", desc := "(LMeadowMilk$Trace;II)V" } : Jvm.MethodName)) ∈ lw_all := lw_g (lw_at lw_m2 182 rfl) rfl
theorem q483 : (Jvm.Cond.laysFinal "MeadowMilk$Scout" "MeadowMilk$Cow" "trace" "LMeadowMilk$Trace;") ∈ lw_all := lw_g (lw_at lw_m2 183 rfl) rfl
theorem q484 : (Jvm.Cond.laysFinal "MeadowMilk$Scout" "MeadowMilk$Cow" "number" "I") ∈ lw_all := lw_g (lw_at lw_m2 184 rfl) rfl
theorem q485 : (Jvm.Cond.laysFinal "MeadowMilk$Scout" "MeadowMilk$Cow" "m" "I") ∈ lw_all := lw_g (lw_at lw_m2 185 rfl) rfl
theorem q486 : (Jvm.Cond.superclass "MeadowMilk$Scout" "MeadowMilk$Wanderer") ∈ lw_all := lw_g (lw_at lw_m2 186 rfl) rfl
theorem q532 : (Jvm.Cond.selects "MeadowMilk$Scout" ({ cls := "MeadowMilk$Cow", name := "kind", desc := "()I" } : Jvm.MethodName) ({ cls := "MeadowMilk$Scout", name := "kind", desc := "()I" } : Jvm.MethodName)) ∈ lw_all := lw_g (lw_at lw_m2 232 rfl) rfl
theorem q533 : (Jvm.Cond.instanceMethod ({ cls := "MeadowMilk$Scout", name := "kind", desc := "()I" } : Jvm.MethodName)) ∈ lw_all := lw_g (lw_at lw_m2 233 rfl) rfl
theorem q534 : (Jvm.Cond.code ({ cls := "MeadowMilk$Scout", name := "kind", desc := "()I" } : Jvm.MethodName) prog_18_method_2_code (1 : Nat) (Option.some Jvm.ClassFile.FieldType.int)) ∈ lw_all := lw_g (lw_at lw_m2 234 rfl) rfl
theorem q554 : (Jvm.Cond.selects "MeadowMilk$Scout" ({ cls := "MeadowMilk$Cow", name := "eaten", desc := "()I" } : Jvm.MethodName) ({ cls := "MeadowMilk$Cow", name := "eaten", desc := "()I" } : Jvm.MethodName)) ∈ lw_all := lw_g (lw_at lw_m3 14 rfl) rfl
theorem q569 : (Jvm.Cond.selects "MeadowMilk$Scout" ({ cls := "MeadowMilk$Cow", name := "span", desc := "()I" } : Jvm.MethodName) ({ cls := "MeadowMilk$Wanderer", name := "span", desc := "()I" } : Jvm.MethodName)) ∈ lw_all := lw_g (lw_at lw_m3 29 rfl) rfl
theorem q613 : (Jvm.Cond.selects "MeadowMilk$Scout" ({ cls := "MeadowMilk$Cow", name := "wanted", desc := "(IIZZ)I" } : Jvm.MethodName) ({ cls := "MeadowMilk$Scout", name := "wanted", desc := "(IIZZ)I" } : Jvm.MethodName)) ∈ lw_all := lw_g (lw_at lw_m3 73 rfl) rfl
theorem q614 : (Jvm.Cond.instanceMethod ({ cls := "MeadowMilk$Scout", name := "wanted", desc := "(IIZZ)I" } : Jvm.MethodName)) ∈ lw_all := lw_g (lw_at lw_m3 74 rfl) rfl
theorem q615 : (Jvm.Cond.code ({ cls := "MeadowMilk$Scout", name := "wanted", desc := "(IIZZ)I" } : Jvm.MethodName) prog_18_method_4_code (5 : Nat) (Option.some Jvm.ClassFile.FieldType.int)) ∈ lw_all := lw_g (lw_at lw_m3 75 rfl) rfl
theorem q616 : (Jvm.Cond.methodLink "MeadowMilk$Scout" (13 : Nat) ({ cls := "MeadowMilk$Wanderer", name := "wanted", desc := "(IIZZ)I" } : Jvm.MethodName)) ∈ lw_all := lw_g (lw_at lw_m3 76 rfl) rfl
theorem q655 : (Jvm.Cond.selects "MeadowMilk$Scout" ({ cls := "MeadowMilk$Cow", name := "isOf", desc := "(I)Z" } : Jvm.MethodName) ({ cls := "MeadowMilk$Scout", name := "isOf", desc := "(I)Z" } : Jvm.MethodName)) ∈ lw_all := lw_g (lw_at lw_m3 115 rfl) rfl
theorem q656 : (Jvm.Cond.instanceMethod ({ cls := "MeadowMilk$Scout", name := "isOf", desc := "(I)Z" } : Jvm.MethodName)) ∈ lw_all := lw_g (lw_at lw_m3 116 rfl) rfl
theorem q657 : (Jvm.Cond.code ({ cls := "MeadowMilk$Scout", name := "isOf", desc := "(I)Z" } : Jvm.MethodName) prog_18_method_3_code (2 : Nat) (Option.some Jvm.ClassFile.FieldType.boolean)) ∈ lw_all := lw_g (lw_at lw_m3 117 rfl) rfl
theorem q658 : (Jvm.Cond.methodLink "MeadowMilk$Scout" (9 : Nat) ({ cls := "MeadowMilk$Wanderer", name := "isOf", desc := "(I)Z" } : Jvm.MethodName)) ∈ lw_all := lw_g (lw_at lw_m3 118 rfl) rfl
theorem q1120 : (Jvm.Cond.castable "MeadowMilk$Scout" "MeadowMilk$Wants") ∈ lw_tbl := lw_at lw_m5 100 rfl
theorem q1121 : (Jvm.Cond.selects "MeadowMilk$Scout" ({ cls := "MeadowMilk$Wants", name := "wants", desc := "(I)I" } : Jvm.MethodName) ({ cls := "MeadowMilk$Wanderer", name := "wants", desc := "(I)I" } : Jvm.MethodName)) ∈ lw_all := lw_g (lw_at lw_m5 101 rfl) rfl
theorem q1122 : (Jvm.Cond.unhidden "MeadowMilk$Scout" "wants" "(I)I") ∈ lw_tbl := lw_at lw_m5 102 rfl
theorem q1171 : (Jvm.Cond.castable "MeadowMilk$Scout" "MeadowMilk$Eats") ∈ lw_tbl := lw_at lw_m5 151 rfl
theorem q1172 : (Jvm.Cond.selects "MeadowMilk$Scout" ({ cls := "MeadowMilk$Eats", name := "eats", desc := "(I)I" } : Jvm.MethodName) ({ cls := "MeadowMilk$Cow", name := "eats", desc := "(I)I" } : Jvm.MethodName)) ∈ lw_all := lw_g (lw_at lw_m5 152 rfl) rfl
theorem q1173 : (Jvm.Cond.unhidden "MeadowMilk$Scout" "eats" "(I)I") ∈ lw_tbl := lw_at lw_m5 153 rfl
theorem q1207 : (Jvm.Cond.castable "MeadowMilk$Scout" "MeadowMilk$Knows") ∈ lw_tbl := lw_at lw_m5 187 rfl
theorem q1208 : (Jvm.Cond.selects "MeadowMilk$Scout" ({ cls := "MeadowMilk$Knows", name := "knows", desc := "(I)I" } : Jvm.MethodName) ({ cls := "MeadowMilk$Cow", name := "knows", desc := "(I)I" } : Jvm.MethodName)) ∈ lw_all := lw_g (lw_at lw_m5 188 rfl) rfl
theorem q1209 : (Jvm.Cond.unhidden "MeadowMilk$Scout" "knows" "(I)I") ∈ lw_tbl := lw_at lw_m5 189 rfl
theorem q1247 : (Jvm.Cond.castable "MeadowMilk$Scout" "MeadowMilk$Tells") ∈ lw_tbl := lw_at lw_m5 227 rfl
theorem q1248 : (Jvm.Cond.selects "MeadowMilk$Scout" ({ cls := "MeadowMilk$Tells", name := "tells", desc := "(I)I" } : Jvm.MethodName) ({ cls := "MeadowMilk$Scout", name := "tells", desc := "(I)I" } : Jvm.MethodName)) ∈ lw_all := lw_g (lw_at lw_m5 228 rfl) rfl
theorem q1249 : (Jvm.Cond.unhidden "MeadowMilk$Scout" "tells" "(I)I") ∈ lw_tbl := lw_at lw_m5 229 rfl
theorem q1250 : (Jvm.Cond.instanceMethod ({ cls := "MeadowMilk$Scout", name := "tells", desc := "(I)I" } : Jvm.MethodName)) ∈ lw_all := lw_g (lw_at lw_m5 230 rfl) rfl
theorem q1251 : (Jvm.Cond.publicMethod ({ cls := "MeadowMilk$Scout", name := "tells", desc := "(I)I" } : Jvm.MethodName)) ∈ lw_tbl := lw_at lw_m5 231 rfl
theorem q1252 : (Jvm.Cond.code ({ cls := "MeadowMilk$Scout", name := "tells", desc := "(I)I" } : Jvm.MethodName) prog_18_method_5_code (3 : Nat) (Option.some Jvm.ClassFile.FieldType.int)) ∈ lw_all := lw_g (lw_at lw_m5 232 rfl) rfl
theorem q1253 : (Jvm.Cond.methodLink "MeadowMilk$Scout" (27 : Nat) ({ cls := "MeadowMilk$Trace", name := "begins", desc := "(I)V" } : Jvm.MethodName)) ∈ lw_all := lw_g (lw_at lw_m5 233 rfl) rfl
theorem q1254 : (Jvm.Cond.methodLink "MeadowMilk$Scout" (33 : Nat) ({ cls := "MeadowMilk$Wanderer", name := "tells", desc := "(I)I" } : Jvm.MethodName)) ∈ lw_all := lw_g (lw_at lw_m5 234 rfl) rfl
theorem q1256 : (Jvm.Cond.methodLink "MeadowMilk$Scout" (37 : Nat) ({ cls := "MeadowMilk$Scout", name := "wants", desc := "(I)I" } : Jvm.MethodName)) ∈ lw_all := lw_g (lw_at lw_m5 236 rfl) rfl
theorem q1257 : (Jvm.Cond.sameMethod "MeadowMilk$Scout" "MeadowMilk$Wanderer" "wants" "(I)I") ∈ lw_all := lw_g (lw_at lw_m5 237 rfl) rfl
theorem q1259 : (Jvm.Cond.selects "MeadowMilk$Scout" ({ cls := "MeadowMilk$Scout", name := "wants", desc := "(I)I" } : Jvm.MethodName) ({ cls := "MeadowMilk$Wanderer", name := "wants", desc := "(I)I" } : Jvm.MethodName)) ∈ lw_all := lw_g (lw_at lw_m5 239 rfl) rfl
theorem q1843 : (Jvm.Cond.selects "MeadowMilk$Scout" ({ cls := "MeadowMilk$Cow", name := "wants", desc := "(I)I" } : Jvm.MethodName) ({ cls := "MeadowMilk$Wanderer", name := "wants", desc := "(I)I" } : Jvm.MethodName)) ∈ lw_all := lw_g (lw_at lw_m8 103 rfl) rfl
theorem q1854 : (Jvm.Cond.selects "MeadowMilk$Scout" ({ cls := "MeadowMilk$Cow", name := "eats", desc := "(I)I" } : Jvm.MethodName) ({ cls := "MeadowMilk$Cow", name := "eats", desc := "(I)I" } : Jvm.MethodName)) ∈ lw_all := lw_g (lw_at lw_m8 114 rfl) rfl
theorem q1861 : (Jvm.Cond.selects "MeadowMilk$Scout" ({ cls := "MeadowMilk$Cow", name := "knows", desc := "(I)I" } : Jvm.MethodName) ({ cls := "MeadowMilk$Cow", name := "knows", desc := "(I)I" } : Jvm.MethodName)) ∈ lw_all := lw_g (lw_at lw_m8 121 rfl) rfl
theorem q1870 : (Jvm.Cond.castable "MeadowMilk$Scout" "MeadowMilk$Cow") ∈ lw_tbl := lw_at lw_m8 130 rfl
theorem in_X14 : ∀ w ∈ wsX140, w ∈ lw_all := lw_in wsX140 [483, 484, 485] (by decide +kernel) (by decide +kernel)
/-! MeadowMilk$Ruminant -/
set_option maxRecDepth 100000
def RX15 : String := "MeadowMilk$Ruminant"
def TX15 : u_T := fun k => match k with
  | 0 => ("MeadowMilk$Cow", "trace", "LMeadowMilk$Trace;", true)
  | 1 => ("MeadowMilk$Cow", "number", "I", true)
  | _ => ("MeadowMilk$Cow", "m", "I", true)
def tyX15 : Nat → FieldType := fun k => match k with
  | 0 => .object "MeadowMilk$Trace"
  | 1 => .int
  | _ => .int
abbrev wsX150 : List Cond := u_ws RX15 TX15 3
theorem nmX15 : ∀ a, a < 3 → ∀ b, b < 3 → a ≠ b → (TX15 a).2.1 ≠ (TX15 b).2.1 := by decide +kernel
theorem tyX15_ok : ∀ k, k < 3 → parseFieldDescriptor (TX15 k).2.2.1 = some (tyX15 k) := by decide +kernel
abbrev cX15_init : ByteArray := prog_17_method_1_code
def yX15_init : MethodName := ⟨RX15, "<init>", "(LMeadowMilk$Trace;II)V"⟩
def dkwX15_init_0 : List UInt8 := [42, 43, 28, 29, 183, 0, 3, 177]
abbrev dktX15_init_0 : List UInt8 := dkwX15_init_0 ++ []
theorem dksX15_init_0 : cX15_init.data.toList.drop 0 = dktX15_init_0 := by decide +kernel
theorem dX15_init_0 : decode cX15_init 0 = .ok (.aload_n 0, 1) := dk_42 (dk_at dksX15_init_0 0 rfl rfl)
theorem dX15_init_1 : decode cX15_init 1 = .ok (.aload_n 1, 1) := dk_43 (dk_at dksX15_init_0 1 rfl rfl)
theorem dX15_init_2 : decode cX15_init 2 = .ok (.iload_n 2, 1) := dk_28 (dk_at dksX15_init_0 2 rfl rfl)
theorem dX15_init_3 : decode cX15_init 3 = .ok (.iload_n 3, 1) := dk_29 (dk_at dksX15_init_0 3 rfl rfl)
theorem dX15_init_4 : decode cX15_init 4 = .ok (.invokespecial 3, 3) := dk_183 0 3 (dk_at dksX15_init_0 4 rfl rfl)
theorem dX15_init_7 : decode cX15_init 7 = .ok (.return_, 1) := dk_177 (dk_at dksX15_init_0 7 rfl rfl)
abbrev cX15_kind : ByteArray := prog_17_method_2_code
def yX15_kind : MethodName := ⟨RX15, "kind", "()I"⟩
theorem dX15_kind_0 : decode cX15_kind 0 = .ok (.bipush 6, 2) := by decide +kernel
theorem dX15_kind_2 : decode cX15_kind 2 = .ok (.ireturn, 1) := by decide +kernel
abbrev cX15_span : ByteArray := prog_17_method_5_code
def yX15_span : MethodName := ⟨RX15, "span", "()I"⟩
def dkwX15_span_0 : List UInt8 := [16, 6, 42, 180, 0, 17, 5, 108, 96, 172]
abbrev dktX15_span_0 : List UInt8 := dkwX15_span_0 ++ []
theorem dksX15_span_0 : cX15_span.data.toList.drop 0 = dktX15_span_0 := by decide +kernel
theorem dX15_span_0 : decode cX15_span 0 = .ok (.bipush 6, 2) := dk_16 6 (dk_at dksX15_span_0 0 rfl rfl)
theorem dX15_span_2 : decode cX15_span 2 = .ok (.aload_n 0, 1) := dk_42 (dk_at dksX15_span_0 2 rfl rfl)
theorem dX15_span_3 : decode cX15_span 3 = .ok (.getfield 17, 3) := dk_180 0 17 (dk_at dksX15_span_0 3 rfl rfl)
theorem dX15_span_6 : decode cX15_span 6 = .ok (.iconst 2, 1) := dk_5 (dk_at dksX15_span_0 6 rfl rfl)
theorem dX15_span_7 : decode cX15_span 7 = .ok (.idiv, 1) := dk_108 (dk_at dksX15_span_0 7 rfl rfl)
theorem dX15_span_8 : decode cX15_span 8 = .ok (.iadd, 1) := dk_96 (dk_at dksX15_span_0 8 rfl rfl)
theorem dX15_span_9 : decode cX15_span 9 = .ok (.ireturn, 1) := dk_172 (dk_at dksX15_span_0 9 rfl rfl)
abbrev cX15_wanted : ByteArray := prog_17_method_4_code
def yX15_wanted : MethodName := ⟨RX15, "wanted", "(IIZZ)I"⟩
def dkwX15_wanted_0 : List UInt8 := [42, 27, 28, 29, 21, 4, 183, 0, 13, 29, 153, 0, 8, 16, 20, 167, 0, 4, 3, 96, 172]
abbrev dktX15_wanted_0 : List UInt8 := dkwX15_wanted_0 ++ []
theorem dksX15_wanted_0 : cX15_wanted.data.toList.drop 0 = dktX15_wanted_0 := by decide +kernel
theorem dX15_wanted_0 : decode cX15_wanted 0 = .ok (.aload_n 0, 1) := dk_42 (dk_at dksX15_wanted_0 0 rfl rfl)
theorem dX15_wanted_1 : decode cX15_wanted 1 = .ok (.iload_n 1, 1) := dk_27 (dk_at dksX15_wanted_0 1 rfl rfl)
theorem dX15_wanted_2 : decode cX15_wanted 2 = .ok (.iload_n 2, 1) := dk_28 (dk_at dksX15_wanted_0 2 rfl rfl)
theorem dX15_wanted_3 : decode cX15_wanted 3 = .ok (.iload_n 3, 1) := dk_29 (dk_at dksX15_wanted_0 3 rfl rfl)
theorem dX15_wanted_4 : decode cX15_wanted 4 = .ok (.iload 4, 2) := dk_21 4 (dk_at dksX15_wanted_0 4 rfl rfl)
theorem dX15_wanted_6 : decode cX15_wanted 6 = .ok (.invokespecial 13, 3) := dk_183 0 13 (dk_at dksX15_wanted_0 6 rfl rfl)
theorem dX15_wanted_9 : decode cX15_wanted 9 = .ok (.iload_n 3, 1) := dk_29 (dk_at dksX15_wanted_0 9 rfl rfl)
theorem dX15_wanted_10 : decode cX15_wanted 10 = .ok (.ifCond .eq 8, 3) := dk_153 0 8 (dk_at dksX15_wanted_0 10 rfl rfl)
theorem dX15_wanted_13 : decode cX15_wanted 13 = .ok (.bipush 20, 2) := dk_16 20 (dk_at dksX15_wanted_0 13 rfl rfl)
theorem dX15_wanted_15 : decode cX15_wanted 15 = .ok (.goto 4, 3) := dk_167 0 4 (dk_at dksX15_wanted_0 15 rfl rfl)
theorem dX15_wanted_18 : decode cX15_wanted 18 = .ok (.iconst 0, 1) := dk_3 (dk_at dksX15_wanted_0 18 rfl rfl)
theorem dX15_wanted_19 : decode cX15_wanted 19 = .ok (.iadd, 1) := dk_96 (dk_at dksX15_wanted_0 19 rfl rfl)
theorem dX15_wanted_20 : decode cX15_wanted 20 = .ok (.ireturn, 1) := dk_172 (dk_at dksX15_wanted_0 20 rfl rfl)
abbrev cX15_isOf : ByteArray := prog_17_method_3_code
def yX15_isOf : MethodName := ⟨RX15, "isOf", "(I)Z"⟩
def dkwX15_isOf_0 : List UInt8 := [27, 16, 6, 159, 0, 11, 42, 27, 183, 0, 9, 153, 0, 7, 4, 167, 0, 4, 3, 172]
abbrev dktX15_isOf_0 : List UInt8 := dkwX15_isOf_0 ++ []
theorem dksX15_isOf_0 : cX15_isOf.data.toList.drop 0 = dktX15_isOf_0 := by decide +kernel
theorem dX15_isOf_0 : decode cX15_isOf 0 = .ok (.iload_n 1, 1) := dk_27 (dk_at dksX15_isOf_0 0 rfl rfl)
theorem dX15_isOf_1 : decode cX15_isOf 1 = .ok (.bipush 6, 2) := dk_16 6 (dk_at dksX15_isOf_0 1 rfl rfl)
theorem dX15_isOf_3 : decode cX15_isOf 3 = .ok (.if_icmp .eq 11, 3) := dk_159 0 11 (dk_at dksX15_isOf_0 3 rfl rfl)
theorem dX15_isOf_6 : decode cX15_isOf 6 = .ok (.aload_n 0, 1) := dk_42 (dk_at dksX15_isOf_0 6 rfl rfl)
theorem dX15_isOf_7 : decode cX15_isOf 7 = .ok (.iload_n 1, 1) := dk_27 (dk_at dksX15_isOf_0 7 rfl rfl)
theorem dX15_isOf_8 : decode cX15_isOf 8 = .ok (.invokespecial 9, 3) := dk_183 0 9 (dk_at dksX15_isOf_0 8 rfl rfl)
theorem dX15_isOf_11 : decode cX15_isOf 11 = .ok (.ifCond .eq 7, 3) := dk_153 0 7 (dk_at dksX15_isOf_0 11 rfl rfl)
theorem dX15_isOf_14 : decode cX15_isOf 14 = .ok (.iconst 1, 1) := dk_4 (dk_at dksX15_isOf_0 14 rfl rfl)
theorem dX15_isOf_15 : decode cX15_isOf 15 = .ok (.goto 4, 3) := dk_167 0 4 (dk_at dksX15_isOf_0 15 rfl rfl)
theorem dX15_isOf_18 : decode cX15_isOf 18 = .ok (.iconst 0, 1) := dk_3 (dk_at dksX15_isOf_0 18 rfl rfl)
theorem dX15_isOf_19 : decode cX15_isOf 19 = .ok (.ireturn, 1) := dk_172 (dk_at dksX15_isOf_0 19 rfl rfl)
abbrev cX15_knows : ByteArray := prog_17_method_6_code
def yX15_knows : MethodName := ⟨RX15, "knows", "(I)I"⟩
def dkwX15_knows_0 : List UInt8 := [42, 180, 0, 23, 16, 70, 182, 0, 27, 42, 27, 183, 0, 33, 42, 180, 0, 37, 130, 172]
abbrev dktX15_knows_0 : List UInt8 := dkwX15_knows_0 ++ []
theorem dksX15_knows_0 : cX15_knows.data.toList.drop 0 = dktX15_knows_0 := by decide +kernel
theorem dX15_knows_0 : decode cX15_knows 0 = .ok (.aload_n 0, 1) := dk_42 (dk_at dksX15_knows_0 0 rfl rfl)
theorem dX15_knows_1 : decode cX15_knows 1 = .ok (.getfield 23, 3) := dk_180 0 23 (dk_at dksX15_knows_0 1 rfl rfl)
theorem dX15_knows_4 : decode cX15_knows 4 = .ok (.bipush 70, 2) := dk_16 70 (dk_at dksX15_knows_0 4 rfl rfl)
theorem dX15_knows_6 : decode cX15_knows 6 = .ok (.invokevirtual 27, 3) := dk_182 0 27 (dk_at dksX15_knows_0 6 rfl rfl)
theorem dX15_knows_9 : decode cX15_knows 9 = .ok (.aload_n 0, 1) := dk_42 (dk_at dksX15_knows_0 9 rfl rfl)
theorem dX15_knows_10 : decode cX15_knows 10 = .ok (.iload_n 1, 1) := dk_27 (dk_at dksX15_knows_0 10 rfl rfl)
theorem dX15_knows_11 : decode cX15_knows 11 = .ok (.invokespecial 33, 3) := dk_183 0 33 (dk_at dksX15_knows_0 11 rfl rfl)
theorem dX15_knows_14 : decode cX15_knows 14 = .ok (.aload_n 0, 1) := dk_42 (dk_at dksX15_knows_0 14 rfl rfl)
theorem dX15_knows_15 : decode cX15_knows 15 = .ok (.getfield 37, 3) := dk_180 0 37 (dk_at dksX15_knows_0 15 rfl rfl)
theorem dX15_knows_18 : decode cX15_knows 18 = .ok (.ixor, 1) := dk_130 (dk_at dksX15_knows_0 18 rfl rfl)
theorem dX15_knows_19 : decode cX15_knows 19 = .ok (.ireturn, 1) := dk_172 (dk_at dksX15_knows_0 19 rfl rfl)
abbrev cX15_tells : ByteArray := prog_17_method_7_code
def yX15_tells : MethodName := ⟨RX15, "tells", "(I)I"⟩
def dkwX15_tells_0 : List UInt8 := [42, 180, 0, 23, 16, 71, 182, 0, 27, 42, 27, 182, 0, 40, 61, 28, 42, 27, 183, 0, 43, 100, 172]
abbrev dktX15_tells_0 : List UInt8 := dkwX15_tells_0 ++ []
theorem dksX15_tells_0 : cX15_tells.data.toList.drop 0 = dktX15_tells_0 := by decide +kernel
theorem dX15_tells_0 : decode cX15_tells 0 = .ok (.aload_n 0, 1) := dk_42 (dk_at dksX15_tells_0 0 rfl rfl)
theorem dX15_tells_1 : decode cX15_tells 1 = .ok (.getfield 23, 3) := dk_180 0 23 (dk_at dksX15_tells_0 1 rfl rfl)
theorem dX15_tells_4 : decode cX15_tells 4 = .ok (.bipush 71, 2) := dk_16 71 (dk_at dksX15_tells_0 4 rfl rfl)
theorem dX15_tells_6 : decode cX15_tells 6 = .ok (.invokevirtual 27, 3) := dk_182 0 27 (dk_at dksX15_tells_0 6 rfl rfl)
theorem dX15_tells_9 : decode cX15_tells 9 = .ok (.aload_n 0, 1) := dk_42 (dk_at dksX15_tells_0 9 rfl rfl)
theorem dX15_tells_10 : decode cX15_tells 10 = .ok (.iload_n 1, 1) := dk_27 (dk_at dksX15_tells_0 10 rfl rfl)
theorem dX15_tells_11 : decode cX15_tells 11 = .ok (.invokevirtual 40, 3) := dk_182 0 40 (dk_at dksX15_tells_0 11 rfl rfl)
theorem dX15_tells_14 : decode cX15_tells 14 = .ok (.istore_n 2, 1) := dk_61 (dk_at dksX15_tells_0 14 rfl rfl)
theorem dX15_tells_15 : decode cX15_tells 15 = .ok (.iload_n 2, 1) := dk_28 (dk_at dksX15_tells_0 15 rfl rfl)
theorem dX15_tells_16 : decode cX15_tells 16 = .ok (.aload_n 0, 1) := dk_42 (dk_at dksX15_tells_0 16 rfl rfl)
theorem dX15_tells_17 : decode cX15_tells 17 = .ok (.iload_n 1, 1) := dk_27 (dk_at dksX15_tells_0 17 rfl rfl)
theorem dX15_tells_18 : decode cX15_tells 18 = .ok (.invokespecial 43, 3) := dk_183 0 43 (dk_at dksX15_tells_0 18 rfl rfl)
theorem dX15_tells_21 : decode cX15_tells 21 = .ok (.isub, 1) := dk_100 (dk_at dksX15_tells_0 21 rfl rfl)
theorem dX15_tells_22 : decode cX15_tells 22 = .ok (.ireturn, 1) := dk_172 (dk_at dksX15_tells_0 22 rfl rfl)
theorem q80 : (Jvm.Cond.initialized "MeadowMilk$Ruminant") ∈ lw_all := lw_g (lw_at lw_m1 20 rfl) rfl
theorem q423 : (Jvm.Cond.fieldLink "MeadowMilk$Ruminant" (23 : Nat) "MeadowMilk$Ruminant" "trace" "LMeadowMilk$Trace;") ∈ lw_all := lw_g (lw_at lw_m2 123 rfl) rfl
theorem q424 : (Jvm.Cond.sameField "MeadowMilk$Ruminant" "MeadowMilk$Cow" "trace" "LMeadowMilk$Trace;") ∈ lw_all := lw_g (lw_at lw_m2 124 rfl) rfl
theorem q428 : (Jvm.Cond.fieldLink "MeadowMilk$Ruminant" (37 : Nat) "MeadowMilk$Ruminant" "number" "I") ∈ lw_all := lw_g (lw_at lw_m2 128 rfl) rfl
theorem q429 : (Jvm.Cond.sameField "MeadowMilk$Ruminant" "MeadowMilk$Cow" "number" "I") ∈ lw_all := lw_g (lw_at lw_m2 129 rfl) rfl
theorem q437 : (Jvm.Cond.fieldLink "MeadowMilk$Ruminant" (17 : Nat) "MeadowMilk$Ruminant" "m" "I") ∈ lw_all := lw_g (lw_at lw_m2 137 rfl) rfl
theorem q438 : (Jvm.Cond.sameField "MeadowMilk$Ruminant" "MeadowMilk$Cow" "m" "I") ∈ lw_all := lw_g (lw_at lw_m2 138 rfl) rfl
theorem q488 : (Jvm.Cond.instantiable "MeadowMilk$Ruminant" (3 : Nat)) ∈ lw_all := lw_g (lw_at lw_m2 188 rfl) rfl
theorem q490 : (Jvm.Cond.instanceMethod ({ cls := "MeadowMilk$Ruminant", name := "<init>", desc := "(LMeadowMilk$Trace;II)V" } : Jvm.MethodName)) ∈ lw_all := lw_g (lw_at lw_m2 190 rfl) rfl
theorem q491 : (Jvm.Cond.code ({ cls := "MeadowMilk$Ruminant", name := "<init>", desc := "(LMeadowMilk$Trace;II)V" } : Jvm.MethodName) prog_17_method_1_code (4 : Nat) (Option.none : Option Jvm.ClassFile.FieldType)) ∈ lw_all := lw_g (lw_at lw_m2 191 rfl) rfl
theorem q492 : (Jvm.Cond.methodLink "MeadowMilk$Ruminant" (3 : Nat) ({ cls := "MeadowMilk$Homely", name := "<init>", desc := "(LMeadowMilk$Trace;II)V" } : Jvm.MethodName)) ∈ lw_all := lw_g (lw_at lw_m2 192 rfl) rfl
theorem q493 : (Jvm.Cond.laysFinal "MeadowMilk$Ruminant" "MeadowMilk$Cow" "trace" "LMeadowMilk$Trace;") ∈ lw_all := lw_g (lw_at lw_m2 193 rfl) rfl
theorem q494 : (Jvm.Cond.laysFinal "MeadowMilk$Ruminant" "MeadowMilk$Cow" "number" "I") ∈ lw_all := lw_g (lw_at lw_m2 194 rfl) rfl
theorem q495 : (Jvm.Cond.laysFinal "MeadowMilk$Ruminant" "MeadowMilk$Cow" "m" "I") ∈ lw_all := lw_g (lw_at lw_m2 195 rfl) rfl
theorem q496 : (Jvm.Cond.superclass "MeadowMilk$Ruminant" "MeadowMilk$Homely") ∈ lw_all := lw_g (lw_at lw_m2 196 rfl) rfl
theorem q529 : (Jvm.Cond.selects "MeadowMilk$Ruminant" ({ cls := "MeadowMilk$Cow", name := "kind", desc := "()I" } : Jvm.MethodName) ({ cls := "MeadowMilk$Ruminant", name := "kind", desc := "()I" } : Jvm.MethodName)) ∈ lw_all := lw_g (lw_at lw_m2 229 rfl) rfl
theorem q530 : (Jvm.Cond.instanceMethod ({ cls := "MeadowMilk$Ruminant", name := "kind", desc := "()I" } : Jvm.MethodName)) ∈ lw_all := lw_g (lw_at lw_m2 230 rfl) rfl
theorem q531 : (Jvm.Cond.code ({ cls := "MeadowMilk$Ruminant", name := "kind", desc := "()I" } : Jvm.MethodName) prog_17_method_2_code (1 : Nat) (Option.some Jvm.ClassFile.FieldType.int)) ∈ lw_all := lw_g (lw_at lw_m2 231 rfl) rfl
theorem q553 : (Jvm.Cond.selects "MeadowMilk$Ruminant" ({ cls := "MeadowMilk$Cow", name := "eaten", desc := "()I" } : Jvm.MethodName) ({ cls := "MeadowMilk$Homely", name := "eaten", desc := "()I" } : Jvm.MethodName)) ∈ lw_all := lw_g (lw_at lw_m3 13 rfl) rfl
theorem q566 : (Jvm.Cond.selects "MeadowMilk$Ruminant" ({ cls := "MeadowMilk$Cow", name := "span", desc := "()I" } : Jvm.MethodName) ({ cls := "MeadowMilk$Ruminant", name := "span", desc := "()I" } : Jvm.MethodName)) ∈ lw_all := lw_g (lw_at lw_m3 26 rfl) rfl
theorem q567 : (Jvm.Cond.instanceMethod ({ cls := "MeadowMilk$Ruminant", name := "span", desc := "()I" } : Jvm.MethodName)) ∈ lw_all := lw_g (lw_at lw_m3 27 rfl) rfl
theorem q568 : (Jvm.Cond.code ({ cls := "MeadowMilk$Ruminant", name := "span", desc := "()I" } : Jvm.MethodName) prog_17_method_5_code (1 : Nat) (Option.some Jvm.ClassFile.FieldType.int)) ∈ lw_all := lw_g (lw_at lw_m3 28 rfl) rfl
theorem q609 : (Jvm.Cond.selects "MeadowMilk$Ruminant" ({ cls := "MeadowMilk$Cow", name := "wanted", desc := "(IIZZ)I" } : Jvm.MethodName) ({ cls := "MeadowMilk$Ruminant", name := "wanted", desc := "(IIZZ)I" } : Jvm.MethodName)) ∈ lw_all := lw_g (lw_at lw_m3 69 rfl) rfl
theorem q610 : (Jvm.Cond.instanceMethod ({ cls := "MeadowMilk$Ruminant", name := "wanted", desc := "(IIZZ)I" } : Jvm.MethodName)) ∈ lw_all := lw_g (lw_at lw_m3 70 rfl) rfl
theorem q611 : (Jvm.Cond.code ({ cls := "MeadowMilk$Ruminant", name := "wanted", desc := "(IIZZ)I" } : Jvm.MethodName) prog_17_method_4_code (5 : Nat) (Option.some Jvm.ClassFile.FieldType.int)) ∈ lw_all := lw_g (lw_at lw_m3 71 rfl) rfl
theorem q612 : (Jvm.Cond.methodLink "MeadowMilk$Ruminant" (13 : Nat) ({ cls := "MeadowMilk$Homely", name := "wanted", desc := "(IIZZ)I" } : Jvm.MethodName)) ∈ lw_all := lw_g (lw_at lw_m3 72 rfl) rfl
theorem q651 : (Jvm.Cond.selects "MeadowMilk$Ruminant" ({ cls := "MeadowMilk$Cow", name := "isOf", desc := "(I)Z" } : Jvm.MethodName) ({ cls := "MeadowMilk$Ruminant", name := "isOf", desc := "(I)Z" } : Jvm.MethodName)) ∈ lw_all := lw_g (lw_at lw_m3 111 rfl) rfl
theorem q652 : (Jvm.Cond.instanceMethod ({ cls := "MeadowMilk$Ruminant", name := "isOf", desc := "(I)Z" } : Jvm.MethodName)) ∈ lw_all := lw_g (lw_at lw_m3 112 rfl) rfl
theorem q653 : (Jvm.Cond.code ({ cls := "MeadowMilk$Ruminant", name := "isOf", desc := "(I)Z" } : Jvm.MethodName) prog_17_method_3_code (2 : Nat) (Option.some Jvm.ClassFile.FieldType.boolean)) ∈ lw_all := lw_g (lw_at lw_m3 113 rfl) rfl
theorem q654 : (Jvm.Cond.methodLink "MeadowMilk$Ruminant" (9 : Nat) ({ cls := "MeadowMilk$Homely", name := "isOf", desc := "(I)Z" } : Jvm.MethodName)) ∈ lw_all := lw_g (lw_at lw_m3 114 rfl) rfl
theorem q1117 : (Jvm.Cond.castable "MeadowMilk$Ruminant" "MeadowMilk$Wants") ∈ lw_tbl := lw_at lw_m5 97 rfl
theorem q1118 : (Jvm.Cond.selects "MeadowMilk$Ruminant" ({ cls := "MeadowMilk$Wants", name := "wants", desc := "(I)I" } : Jvm.MethodName) ({ cls := "MeadowMilk$Cow", name := "wants", desc := "(I)I" } : Jvm.MethodName)) ∈ lw_all := lw_g (lw_at lw_m5 98 rfl) rfl
theorem q1119 : (Jvm.Cond.unhidden "MeadowMilk$Ruminant" "wants" "(I)I") ∈ lw_tbl := lw_at lw_m5 99 rfl
theorem q1168 : (Jvm.Cond.castable "MeadowMilk$Ruminant" "MeadowMilk$Eats") ∈ lw_tbl := lw_at lw_m5 148 rfl
theorem q1169 : (Jvm.Cond.selects "MeadowMilk$Ruminant" ({ cls := "MeadowMilk$Eats", name := "eats", desc := "(I)I" } : Jvm.MethodName) ({ cls := "MeadowMilk$Cow", name := "eats", desc := "(I)I" } : Jvm.MethodName)) ∈ lw_all := lw_g (lw_at lw_m5 149 rfl) rfl
theorem q1170 : (Jvm.Cond.unhidden "MeadowMilk$Ruminant" "eats" "(I)I") ∈ lw_tbl := lw_at lw_m5 150 rfl
theorem q1199 : (Jvm.Cond.castable "MeadowMilk$Ruminant" "MeadowMilk$Knows") ∈ lw_tbl := lw_at lw_m5 179 rfl
theorem q1200 : (Jvm.Cond.selects "MeadowMilk$Ruminant" ({ cls := "MeadowMilk$Knows", name := "knows", desc := "(I)I" } : Jvm.MethodName) ({ cls := "MeadowMilk$Ruminant", name := "knows", desc := "(I)I" } : Jvm.MethodName)) ∈ lw_all := lw_g (lw_at lw_m5 180 rfl) rfl
theorem q1201 : (Jvm.Cond.unhidden "MeadowMilk$Ruminant" "knows" "(I)I") ∈ lw_tbl := lw_at lw_m5 181 rfl
theorem q1202 : (Jvm.Cond.instanceMethod ({ cls := "MeadowMilk$Ruminant", name := "knows", desc := "(I)I" } : Jvm.MethodName)) ∈ lw_all := lw_g (lw_at lw_m5 182 rfl) rfl
theorem q1203 : (Jvm.Cond.publicMethod ({ cls := "MeadowMilk$Ruminant", name := "knows", desc := "(I)I" } : Jvm.MethodName)) ∈ lw_tbl := lw_at lw_m5 183 rfl
theorem q1204 : (Jvm.Cond.code ({ cls := "MeadowMilk$Ruminant", name := "knows", desc := "(I)I" } : Jvm.MethodName) prog_17_method_6_code (2 : Nat) (Option.some Jvm.ClassFile.FieldType.int)) ∈ lw_all := lw_g (lw_at lw_m5 184 rfl) rfl
theorem q1205 : (Jvm.Cond.methodLink "MeadowMilk$Ruminant" (27 : Nat) ({ cls := "MeadowMilk$Trace", name := "begins", desc := "(I)V" } : Jvm.MethodName)) ∈ lw_all := lw_g (lw_at lw_m5 185 rfl) rfl
theorem q1206 : (Jvm.Cond.methodLink "MeadowMilk$Ruminant" (33 : Nat) ({ cls := "MeadowMilk$Homely", name := "knows", desc := "(I)I" } : Jvm.MethodName)) ∈ lw_all := lw_g (lw_at lw_m5 186 rfl) rfl
theorem q1234 : (Jvm.Cond.castable "MeadowMilk$Ruminant" "MeadowMilk$Tells") ∈ lw_tbl := lw_at lw_m5 214 rfl
theorem q1235 : (Jvm.Cond.selects "MeadowMilk$Ruminant" ({ cls := "MeadowMilk$Tells", name := "tells", desc := "(I)I" } : Jvm.MethodName) ({ cls := "MeadowMilk$Ruminant", name := "tells", desc := "(I)I" } : Jvm.MethodName)) ∈ lw_all := lw_g (lw_at lw_m5 215 rfl) rfl
theorem q1236 : (Jvm.Cond.unhidden "MeadowMilk$Ruminant" "tells" "(I)I") ∈ lw_tbl := lw_at lw_m5 216 rfl
theorem q1237 : (Jvm.Cond.instanceMethod ({ cls := "MeadowMilk$Ruminant", name := "tells", desc := "(I)I" } : Jvm.MethodName)) ∈ lw_all := lw_g (lw_at lw_m5 217 rfl) rfl
theorem q1238 : (Jvm.Cond.publicMethod ({ cls := "MeadowMilk$Ruminant", name := "tells", desc := "(I)I" } : Jvm.MethodName)) ∈ lw_tbl := lw_at lw_m5 218 rfl
theorem q1239 : (Jvm.Cond.code ({ cls := "MeadowMilk$Ruminant", name := "tells", desc := "(I)I" } : Jvm.MethodName) prog_17_method_7_code (3 : Nat) (Option.some Jvm.ClassFile.FieldType.int)) ∈ lw_all := lw_g (lw_at lw_m5 219 rfl) rfl
theorem q1240 : (Jvm.Cond.methodLink "MeadowMilk$Ruminant" (40 : Nat) ({ cls := "MeadowMilk$Ruminant", name := "eats", desc := "(I)I" } : Jvm.MethodName)) ∈ lw_all := lw_g (lw_at lw_m5 220 rfl) rfl
theorem q1241 : (Jvm.Cond.sameMethod "MeadowMilk$Ruminant" "MeadowMilk$Cow" "eats" "(I)I") ∈ lw_all := lw_g (lw_at lw_m5 221 rfl) rfl
theorem q1243 : (Jvm.Cond.selects "MeadowMilk$Ruminant" ({ cls := "MeadowMilk$Ruminant", name := "eats", desc := "(I)I" } : Jvm.MethodName) ({ cls := "MeadowMilk$Cow", name := "eats", desc := "(I)I" } : Jvm.MethodName)) ∈ lw_all := lw_g (lw_at lw_m5 223 rfl) rfl
theorem q1244 : (Jvm.Cond.methodLink "MeadowMilk$Ruminant" (43 : Nat) ({ cls := "MeadowMilk$Homely", name := "tells", desc := "(I)I" } : Jvm.MethodName)) ∈ lw_all := lw_g (lw_at lw_m5 224 rfl) rfl
theorem q1842 : (Jvm.Cond.selects "MeadowMilk$Ruminant" ({ cls := "MeadowMilk$Cow", name := "wants", desc := "(I)I" } : Jvm.MethodName) ({ cls := "MeadowMilk$Cow", name := "wants", desc := "(I)I" } : Jvm.MethodName)) ∈ lw_all := lw_g (lw_at lw_m8 102 rfl) rfl
theorem q1853 : (Jvm.Cond.selects "MeadowMilk$Ruminant" ({ cls := "MeadowMilk$Cow", name := "eats", desc := "(I)I" } : Jvm.MethodName) ({ cls := "MeadowMilk$Cow", name := "eats", desc := "(I)I" } : Jvm.MethodName)) ∈ lw_all := lw_g (lw_at lw_m8 113 rfl) rfl
theorem q1860 : (Jvm.Cond.selects "MeadowMilk$Ruminant" ({ cls := "MeadowMilk$Cow", name := "knows", desc := "(I)I" } : Jvm.MethodName) ({ cls := "MeadowMilk$Ruminant", name := "knows", desc := "(I)I" } : Jvm.MethodName)) ∈ lw_all := lw_g (lw_at lw_m8 120 rfl) rfl
theorem q1871 : (Jvm.Cond.castable "MeadowMilk$Ruminant" "MeadowMilk$Cow") ∈ lw_tbl := lw_at lw_m8 131 rfl
theorem in_X15 : ∀ w ∈ wsX150, w ∈ lw_all := lw_in wsX150 [493, 494, 495] (by decide +kernel) (by decide +kernel)
/-! MeadowMilk$Reader -/
set_option maxRecDepth 100000
def RX16 : String := "MeadowMilk$Reader"
def TX16 : u_T := fun k => match k with
  | 0 => ("MeadowMilk$Reader", "names", "Ljava/lang/String;", true)
  | 1 => ("MeadowMilk$Reader", "bytes", "[B", true)
  | 2 => ("MeadowMilk$Reader", "size", "I", true)
  | 3 => ("MeadowMilk$Reader", "at", "I", false)
  | _ => ("MeadowMilk$Reader", "open", "I", false)
def tyX16 : Nat → FieldType := fun k => match k with
  | 0 => .object "java/lang/String"
  | 1 => .array .byte
  | 2 => .int
  | 3 => .int
  | _ => .int
abbrev wsX160 : List Cond := u_ws RX16 TX16 5
theorem nmX16 : ∀ a, a < 5 → ∀ b, b < 5 → a ≠ b → (TX16 a).2.1 ≠ (TX16 b).2.1 := by decide +kernel
theorem tyX16_ok : ∀ k, k < 5 → parseFieldDescriptor (TX16 k).2.2.1 = some (tyX16 k) := by decide +kernel
abbrev cX16_init : ByteArray := prog_16_method_1_code
def yX16_init : MethodName := ⟨RX16, "<init>", "(Ljava/lang/String;[BI)V"⟩
def dkwX16_init_0 : List UInt8 := [42, 183, 0, 3, 42, 43, 181, 0, 9, 42, 44, 181, 0, 15, 42, 29, 181, 0, 19, 177]
abbrev dktX16_init_0 : List UInt8 := dkwX16_init_0 ++ []
theorem dksX16_init_0 : cX16_init.data.toList.drop 0 = dktX16_init_0 := by decide +kernel
theorem dX16_init_0 : decode cX16_init 0 = .ok (.aload_n 0, 1) := dk_42 (dk_at dksX16_init_0 0 rfl rfl)
theorem dX16_init_1 : decode cX16_init 1 = .ok (.invokespecial 3, 3) := dk_183 0 3 (dk_at dksX16_init_0 1 rfl rfl)
theorem dX16_init_4 : decode cX16_init 4 = .ok (.aload_n 0, 1) := dk_42 (dk_at dksX16_init_0 4 rfl rfl)
theorem dX16_init_5 : decode cX16_init 5 = .ok (.aload_n 1, 1) := dk_43 (dk_at dksX16_init_0 5 rfl rfl)
theorem dX16_init_6 : decode cX16_init 6 = .ok (.putfield 9, 3) := dk_181 0 9 (dk_at dksX16_init_0 6 rfl rfl)
theorem dX16_init_9 : decode cX16_init 9 = .ok (.aload_n 0, 1) := dk_42 (dk_at dksX16_init_0 9 rfl rfl)
theorem dX16_init_10 : decode cX16_init 10 = .ok (.aload_n 2, 1) := dk_44 (dk_at dksX16_init_0 10 rfl rfl)
theorem dX16_init_11 : decode cX16_init 11 = .ok (.putfield 15, 3) := dk_181 0 15 (dk_at dksX16_init_0 11 rfl rfl)
theorem dX16_init_14 : decode cX16_init 14 = .ok (.aload_n 0, 1) := dk_42 (dk_at dksX16_init_0 14 rfl rfl)
theorem dX16_init_15 : decode cX16_init 15 = .ok (.iload_n 3, 1) := dk_29 (dk_at dksX16_init_0 15 rfl rfl)
theorem dX16_init_16 : decode cX16_init 16 = .ok (.putfield 19, 3) := dk_181 0 19 (dk_at dksX16_init_0 16 rfl rfl)
theorem dX16_init_19 : decode cX16_init 19 = .ok (.return_, 1) := dk_177 (dk_at dksX16_init_0 19 rfl rfl)
abbrev cX16_read : ByteArray := prog_16_method_2_code
def yX16_read : MethodName := ⟨RX16, "read", "()LMeadowMilk$Term;"⟩
def dkwX16_read_1 : List UInt8 := [182, 0, 30, 43, 176]
abbrev dktX16_read_1 : List UInt8 := dkwX16_read_1 ++ []
def dkwX16_read_0 : List UInt8 := [42, 182, 0, 23, 76, 42, 42, 180, 0, 27, 42, 180, 0, 19, 160, 0, 7, 4, 167, 0, 4, 3]
abbrev dktX16_read_0 : List UInt8 := dkwX16_read_0 ++ dktX16_read_1
theorem dksX16_read_0 : cX16_read.data.toList.drop 0 = dktX16_read_0 := by decide +kernel
theorem dksX16_read_1 : cX16_read.data.toList.drop 22 = dktX16_read_1 := dk_seg dksX16_read_0 22 rfl rfl
theorem dX16_read_0 : decode cX16_read 0 = .ok (.aload_n 0, 1) := dk_42 (dk_at dksX16_read_0 0 rfl rfl)
theorem dX16_read_1 : decode cX16_read 1 = .ok (.invokevirtual 23, 3) := dk_182 0 23 (dk_at dksX16_read_0 1 rfl rfl)
theorem dX16_read_4 : decode cX16_read 4 = .ok (.astore_n 1, 1) := dk_76 (dk_at dksX16_read_0 4 rfl rfl)
theorem dX16_read_5 : decode cX16_read 5 = .ok (.aload_n 0, 1) := dk_42 (dk_at dksX16_read_0 5 rfl rfl)
theorem dX16_read_6 : decode cX16_read 6 = .ok (.aload_n 0, 1) := dk_42 (dk_at dksX16_read_0 6 rfl rfl)
theorem dX16_read_7 : decode cX16_read 7 = .ok (.getfield 27, 3) := dk_180 0 27 (dk_at dksX16_read_0 7 rfl rfl)
theorem dX16_read_10 : decode cX16_read 10 = .ok (.aload_n 0, 1) := dk_42 (dk_at dksX16_read_0 10 rfl rfl)
theorem dX16_read_11 : decode cX16_read 11 = .ok (.getfield 19, 3) := dk_180 0 19 (dk_at dksX16_read_0 11 rfl rfl)
theorem dX16_read_14 : decode cX16_read 14 = .ok (.if_icmp .ne 7, 3) := dk_160 0 7 (dk_at dksX16_read_0 14 rfl rfl)
theorem dX16_read_17 : decode cX16_read 17 = .ok (.iconst 1, 1) := dk_4 (dk_at dksX16_read_0 17 rfl rfl)
theorem dX16_read_18 : decode cX16_read 18 = .ok (.goto 4, 3) := dk_167 0 4 (dk_at dksX16_read_0 18 rfl rfl)
theorem dX16_read_21 : decode cX16_read 21 = .ok (.iconst 0, 1) := dk_3 (dk_at dksX16_read_0 21 rfl rfl)
theorem dX16_read_22 : decode cX16_read 22 = .ok (.invokevirtual 30, 3) := dk_182 0 30 (dk_at dksX16_read_1 0 rfl rfl)
theorem dX16_read_25 : decode cX16_read 25 = .ok (.aload_n 1, 1) := dk_43 (dk_at dksX16_read_1 3 rfl rfl)
theorem dX16_read_26 : decode cX16_read 26 = .ok (.areturn, 1) := dk_176 (dk_at dksX16_read_1 4 rfl rfl)
abbrev cX16_either : ByteArray := prog_16_method_6_code
def yX16_either : MethodName := ⟨RX16, "either", "()LMeadowMilk$Term;"⟩
def dkwX16_either_1 : List UInt8 := [187, 0, 58, 89, 16, 124, 43, 42, 182, 0, 49, 183, 0, 60, 76, 167, 255, 222, 43, 176]
abbrev dktX16_either_1 : List UInt8 := dkwX16_either_1 ++ []
def dkwX16_either_0 : List UInt8 := [42, 182, 0, 49, 76, 42, 18, 52, 182, 0, 54, 153, 0, 31, 42, 89, 180, 0, 27, 4, 96, 181, 0, 27]
abbrev dktX16_either_0 : List UInt8 := dkwX16_either_0 ++ dktX16_either_1
theorem dksX16_either_0 : cX16_either.data.toList.drop 0 = dktX16_either_0 := by decide +kernel
theorem dksX16_either_1 : cX16_either.data.toList.drop 24 = dktX16_either_1 := dk_seg dksX16_either_0 24 rfl rfl
theorem dX16_either_0 : decode cX16_either 0 = .ok (.aload_n 0, 1) := dk_42 (dk_at dksX16_either_0 0 rfl rfl)
theorem dX16_either_1 : decode cX16_either 1 = .ok (.invokevirtual 49, 3) := dk_182 0 49 (dk_at dksX16_either_0 1 rfl rfl)
theorem dX16_either_4 : decode cX16_either 4 = .ok (.astore_n 1, 1) := dk_76 (dk_at dksX16_either_0 4 rfl rfl)
theorem dX16_either_5 : decode cX16_either 5 = .ok (.aload_n 0, 1) := dk_42 (dk_at dksX16_either_0 5 rfl rfl)
theorem dX16_either_6 : decode cX16_either 6 = .ok (.ldc 52, 2) := dk_18 52 (dk_at dksX16_either_0 6 rfl rfl)
theorem dX16_either_8 : decode cX16_either 8 = .ok (.invokevirtual 54, 3) := dk_182 0 54 (dk_at dksX16_either_0 8 rfl rfl)
theorem dX16_either_11 : decode cX16_either 11 = .ok (.ifCond .eq 31, 3) := dk_153 0 31 (dk_at dksX16_either_0 11 rfl rfl)
theorem dX16_either_14 : decode cX16_either 14 = .ok (.aload_n 0, 1) := dk_42 (dk_at dksX16_either_0 14 rfl rfl)
theorem dX16_either_15 : decode cX16_either 15 = .ok (.dup, 1) := dk_89 (dk_at dksX16_either_0 15 rfl rfl)
theorem dX16_either_16 : decode cX16_either 16 = .ok (.getfield 27, 3) := dk_180 0 27 (dk_at dksX16_either_0 16 rfl rfl)
theorem dX16_either_19 : decode cX16_either 19 = .ok (.iconst 1, 1) := dk_4 (dk_at dksX16_either_0 19 rfl rfl)
theorem dX16_either_20 : decode cX16_either 20 = .ok (.iadd, 1) := dk_96 (dk_at dksX16_either_0 20 rfl rfl)
theorem dX16_either_21 : decode cX16_either 21 = .ok (.putfield 27, 3) := dk_181 0 27 (dk_at dksX16_either_0 21 rfl rfl)
theorem dX16_either_24 : decode cX16_either 24 = .ok (.new 58, 3) := dk_187 0 58 (dk_at dksX16_either_1 0 rfl rfl)
theorem dX16_either_27 : decode cX16_either 27 = .ok (.dup, 1) := dk_89 (dk_at dksX16_either_1 3 rfl rfl)
theorem dX16_either_28 : decode cX16_either 28 = .ok (.bipush 124, 2) := dk_16 124 (dk_at dksX16_either_1 4 rfl rfl)
theorem dX16_either_30 : decode cX16_either 30 = .ok (.aload_n 1, 1) := dk_43 (dk_at dksX16_either_1 6 rfl rfl)
theorem dX16_either_31 : decode cX16_either 31 = .ok (.aload_n 0, 1) := dk_42 (dk_at dksX16_either_1 7 rfl rfl)
theorem dX16_either_32 : decode cX16_either 32 = .ok (.invokevirtual 49, 3) := dk_182 0 49 (dk_at dksX16_either_1 8 rfl rfl)
theorem dX16_either_35 : decode cX16_either 35 = .ok (.invokespecial 60, 3) := dk_183 0 60 (dk_at dksX16_either_1 11 rfl rfl)
theorem dX16_either_38 : decode cX16_either 38 = .ok (.astore_n 1, 1) := dk_76 (dk_at dksX16_either_1 14 rfl rfl)
theorem dX16_either_39 : decode cX16_either 39 = .ok (.goto (-34), 3) := dk_167 255 222 (dk_at dksX16_either_1 15 rfl rfl)
theorem dX16_either_42 : decode cX16_either 42 = .ok (.aload_n 1, 1) := dk_43 (dk_at dksX16_either_1 18 rfl rfl)
theorem dX16_either_43 : decode cX16_either 43 = .ok (.areturn, 1) := dk_176 (dk_at dksX16_either_1 19 rfl rfl)
abbrev cX16_both : ByteArray := prog_16_method_7_code
def yX16_both : MethodName := ⟨RX16, "both", "()LMeadowMilk$Term;"⟩
def dkwX16_both_1 : List UInt8 := [187, 0, 58, 89, 16, 38, 43, 42, 182, 0, 63, 183, 0, 60, 76, 167, 255, 222, 43, 176]
abbrev dktX16_both_1 : List UInt8 := dkwX16_both_1 ++ []
def dkwX16_both_0 : List UInt8 := [42, 182, 0, 63, 76, 42, 18, 66, 182, 0, 54, 153, 0, 31, 42, 89, 180, 0, 27, 4, 96, 181, 0, 27]
abbrev dktX16_both_0 : List UInt8 := dkwX16_both_0 ++ dktX16_both_1
theorem dksX16_both_0 : cX16_both.data.toList.drop 0 = dktX16_both_0 := by decide +kernel
theorem dksX16_both_1 : cX16_both.data.toList.drop 24 = dktX16_both_1 := dk_seg dksX16_both_0 24 rfl rfl
theorem dX16_both_0 : decode cX16_both 0 = .ok (.aload_n 0, 1) := dk_42 (dk_at dksX16_both_0 0 rfl rfl)
theorem dX16_both_1 : decode cX16_both 1 = .ok (.invokevirtual 63, 3) := dk_182 0 63 (dk_at dksX16_both_0 1 rfl rfl)
theorem dX16_both_4 : decode cX16_both 4 = .ok (.astore_n 1, 1) := dk_76 (dk_at dksX16_both_0 4 rfl rfl)
theorem dX16_both_5 : decode cX16_both 5 = .ok (.aload_n 0, 1) := dk_42 (dk_at dksX16_both_0 5 rfl rfl)
theorem dX16_both_6 : decode cX16_both 6 = .ok (.ldc 66, 2) := dk_18 66 (dk_at dksX16_both_0 6 rfl rfl)
theorem dX16_both_8 : decode cX16_both 8 = .ok (.invokevirtual 54, 3) := dk_182 0 54 (dk_at dksX16_both_0 8 rfl rfl)
theorem dX16_both_11 : decode cX16_both 11 = .ok (.ifCond .eq 31, 3) := dk_153 0 31 (dk_at dksX16_both_0 11 rfl rfl)
theorem dX16_both_14 : decode cX16_both 14 = .ok (.aload_n 0, 1) := dk_42 (dk_at dksX16_both_0 14 rfl rfl)
theorem dX16_both_15 : decode cX16_both 15 = .ok (.dup, 1) := dk_89 (dk_at dksX16_both_0 15 rfl rfl)
theorem dX16_both_16 : decode cX16_both 16 = .ok (.getfield 27, 3) := dk_180 0 27 (dk_at dksX16_both_0 16 rfl rfl)
theorem dX16_both_19 : decode cX16_both 19 = .ok (.iconst 1, 1) := dk_4 (dk_at dksX16_both_0 19 rfl rfl)
theorem dX16_both_20 : decode cX16_both 20 = .ok (.iadd, 1) := dk_96 (dk_at dksX16_both_0 20 rfl rfl)
theorem dX16_both_21 : decode cX16_both 21 = .ok (.putfield 27, 3) := dk_181 0 27 (dk_at dksX16_both_0 21 rfl rfl)
theorem dX16_both_24 : decode cX16_both 24 = .ok (.new 58, 3) := dk_187 0 58 (dk_at dksX16_both_1 0 rfl rfl)
theorem dX16_both_27 : decode cX16_both 27 = .ok (.dup, 1) := dk_89 (dk_at dksX16_both_1 3 rfl rfl)
theorem dX16_both_28 : decode cX16_both 28 = .ok (.bipush 38, 2) := dk_16 38 (dk_at dksX16_both_1 4 rfl rfl)
theorem dX16_both_30 : decode cX16_both 30 = .ok (.aload_n 1, 1) := dk_43 (dk_at dksX16_both_1 6 rfl rfl)
theorem dX16_both_31 : decode cX16_both 31 = .ok (.aload_n 0, 1) := dk_42 (dk_at dksX16_both_1 7 rfl rfl)
theorem dX16_both_32 : decode cX16_both 32 = .ok (.invokevirtual 63, 3) := dk_182 0 63 (dk_at dksX16_both_1 8 rfl rfl)
theorem dX16_both_35 : decode cX16_both 35 = .ok (.invokespecial 60, 3) := dk_183 0 60 (dk_at dksX16_both_1 11 rfl rfl)
theorem dX16_both_38 : decode cX16_both 38 = .ok (.astore_n 1, 1) := dk_76 (dk_at dksX16_both_1 14 rfl rfl)
theorem dX16_both_39 : decode cX16_both 39 = .ok (.goto (-34), 3) := dk_167 255 222 (dk_at dksX16_both_1 15 rfl rfl)
theorem dX16_both_42 : decode cX16_both 42 = .ok (.aload_n 1, 1) := dk_43 (dk_at dksX16_both_1 18 rfl rfl)
theorem dX16_both_43 : decode cX16_both 43 = .ok (.areturn, 1) := dk_176 (dk_at dksX16_both_1 19 rfl rfl)
abbrev cX16_relation : ByteArray := prog_16_method_8_code
def yX16_relation : MethodName := ⟨RX16, "relation", "()LMeadowMilk$Term;"⟩
def dkwX16_relation_1 : List UInt8 := [180, 0, 27, 4, 96, 181, 0, 27, 187, 0, 58, 89, 28, 43, 42, 182, 0, 68, 183, 0, 60, 176]
abbrev dktX16_relation_1 : List UInt8 := dkwX16_relation_1 ++ []
def dkwX16_relation_0 : List UInt8 := [42, 182, 0, 68, 76, 42, 18, 71, 182, 0, 54, 154, 0, 5, 43, 176, 42, 182, 0, 39, 61, 42, 89]
abbrev dktX16_relation_0 : List UInt8 := dkwX16_relation_0 ++ dktX16_relation_1
theorem dksX16_relation_0 : cX16_relation.data.toList.drop 0 = dktX16_relation_0 := by decide +kernel
theorem dksX16_relation_1 : cX16_relation.data.toList.drop 23 = dktX16_relation_1 := dk_seg dksX16_relation_0 23 rfl rfl
theorem dX16_relation_0 : decode cX16_relation 0 = .ok (.aload_n 0, 1) := dk_42 (dk_at dksX16_relation_0 0 rfl rfl)
theorem dX16_relation_1 : decode cX16_relation 1 = .ok (.invokevirtual 68, 3) := dk_182 0 68 (dk_at dksX16_relation_0 1 rfl rfl)
theorem dX16_relation_4 : decode cX16_relation 4 = .ok (.astore_n 1, 1) := dk_76 (dk_at dksX16_relation_0 4 rfl rfl)
theorem dX16_relation_5 : decode cX16_relation 5 = .ok (.aload_n 0, 1) := dk_42 (dk_at dksX16_relation_0 5 rfl rfl)
theorem dX16_relation_6 : decode cX16_relation 6 = .ok (.ldc 71, 2) := dk_18 71 (dk_at dksX16_relation_0 6 rfl rfl)
theorem dX16_relation_8 : decode cX16_relation 8 = .ok (.invokevirtual 54, 3) := dk_182 0 54 (dk_at dksX16_relation_0 8 rfl rfl)
theorem dX16_relation_11 : decode cX16_relation 11 = .ok (.ifCond .ne 5, 3) := dk_154 0 5 (dk_at dksX16_relation_0 11 rfl rfl)
theorem dX16_relation_14 : decode cX16_relation 14 = .ok (.aload_n 1, 1) := dk_43 (dk_at dksX16_relation_0 14 rfl rfl)
theorem dX16_relation_15 : decode cX16_relation 15 = .ok (.areturn, 1) := dk_176 (dk_at dksX16_relation_0 15 rfl rfl)
theorem dX16_relation_16 : decode cX16_relation 16 = .ok (.aload_n 0, 1) := dk_42 (dk_at dksX16_relation_0 16 rfl rfl)
theorem dX16_relation_17 : decode cX16_relation 17 = .ok (.invokevirtual 39, 3) := dk_182 0 39 (dk_at dksX16_relation_0 17 rfl rfl)
theorem dX16_relation_20 : decode cX16_relation 20 = .ok (.istore_n 2, 1) := dk_61 (dk_at dksX16_relation_0 20 rfl rfl)
theorem dX16_relation_21 : decode cX16_relation 21 = .ok (.aload_n 0, 1) := dk_42 (dk_at dksX16_relation_0 21 rfl rfl)
theorem dX16_relation_22 : decode cX16_relation 22 = .ok (.dup, 1) := dk_89 (dk_at dksX16_relation_0 22 rfl rfl)
theorem dX16_relation_23 : decode cX16_relation 23 = .ok (.getfield 27, 3) := dk_180 0 27 (dk_at dksX16_relation_1 0 rfl rfl)
theorem dX16_relation_26 : decode cX16_relation 26 = .ok (.iconst 1, 1) := dk_4 (dk_at dksX16_relation_1 3 rfl rfl)
theorem dX16_relation_27 : decode cX16_relation 27 = .ok (.iadd, 1) := dk_96 (dk_at dksX16_relation_1 4 rfl rfl)
theorem dX16_relation_28 : decode cX16_relation 28 = .ok (.putfield 27, 3) := dk_181 0 27 (dk_at dksX16_relation_1 5 rfl rfl)
theorem dX16_relation_31 : decode cX16_relation 31 = .ok (.new 58, 3) := dk_187 0 58 (dk_at dksX16_relation_1 8 rfl rfl)
theorem dX16_relation_34 : decode cX16_relation 34 = .ok (.dup, 1) := dk_89 (dk_at dksX16_relation_1 11 rfl rfl)
theorem dX16_relation_35 : decode cX16_relation 35 = .ok (.iload_n 2, 1) := dk_28 (dk_at dksX16_relation_1 12 rfl rfl)
theorem dX16_relation_36 : decode cX16_relation 36 = .ok (.aload_n 1, 1) := dk_43 (dk_at dksX16_relation_1 13 rfl rfl)
theorem dX16_relation_37 : decode cX16_relation 37 = .ok (.aload_n 0, 1) := dk_42 (dk_at dksX16_relation_1 14 rfl rfl)
theorem dX16_relation_38 : decode cX16_relation 38 = .ok (.invokevirtual 68, 3) := dk_182 0 68 (dk_at dksX16_relation_1 15 rfl rfl)
theorem dX16_relation_41 : decode cX16_relation 41 = .ok (.invokespecial 60, 3) := dk_183 0 60 (dk_at dksX16_relation_1 18 rfl rfl)
theorem dX16_relation_44 : decode cX16_relation 44 = .ok (.areturn, 1) := dk_176 (dk_at dksX16_relation_1 21 rfl rfl)
abbrev cX16_sum : ByteArray := prog_16_method_9_code
def yX16_sum : MethodName := ⟨RX16, "sum", "()LMeadowMilk$Term;"⟩
def dkwX16_sum_1 : List UInt8 := [4, 96, 181, 0, 27, 187, 0, 58, 89, 28, 43, 42, 182, 0, 73, 183, 0, 60, 76, 167, 255, 218, 43, 176]
abbrev dktX16_sum_1 : List UInt8 := dkwX16_sum_1 ++ []
def dkwX16_sum_0 : List UInt8 := [42, 182, 0, 73, 76, 42, 18, 76, 182, 0, 54, 153, 0, 35, 42, 182, 0, 39, 61, 42, 89, 180, 0, 27]
abbrev dktX16_sum_0 : List UInt8 := dkwX16_sum_0 ++ dktX16_sum_1
theorem dksX16_sum_0 : cX16_sum.data.toList.drop 0 = dktX16_sum_0 := by decide +kernel
theorem dksX16_sum_1 : cX16_sum.data.toList.drop 24 = dktX16_sum_1 := dk_seg dksX16_sum_0 24 rfl rfl
theorem dX16_sum_0 : decode cX16_sum 0 = .ok (.aload_n 0, 1) := dk_42 (dk_at dksX16_sum_0 0 rfl rfl)
theorem dX16_sum_1 : decode cX16_sum 1 = .ok (.invokevirtual 73, 3) := dk_182 0 73 (dk_at dksX16_sum_0 1 rfl rfl)
theorem dX16_sum_4 : decode cX16_sum 4 = .ok (.astore_n 1, 1) := dk_76 (dk_at dksX16_sum_0 4 rfl rfl)
theorem dX16_sum_5 : decode cX16_sum 5 = .ok (.aload_n 0, 1) := dk_42 (dk_at dksX16_sum_0 5 rfl rfl)
theorem dX16_sum_6 : decode cX16_sum 6 = .ok (.ldc 76, 2) := dk_18 76 (dk_at dksX16_sum_0 6 rfl rfl)
theorem dX16_sum_8 : decode cX16_sum 8 = .ok (.invokevirtual 54, 3) := dk_182 0 54 (dk_at dksX16_sum_0 8 rfl rfl)
theorem dX16_sum_11 : decode cX16_sum 11 = .ok (.ifCond .eq 35, 3) := dk_153 0 35 (dk_at dksX16_sum_0 11 rfl rfl)
theorem dX16_sum_14 : decode cX16_sum 14 = .ok (.aload_n 0, 1) := dk_42 (dk_at dksX16_sum_0 14 rfl rfl)
theorem dX16_sum_15 : decode cX16_sum 15 = .ok (.invokevirtual 39, 3) := dk_182 0 39 (dk_at dksX16_sum_0 15 rfl rfl)
theorem dX16_sum_18 : decode cX16_sum 18 = .ok (.istore_n 2, 1) := dk_61 (dk_at dksX16_sum_0 18 rfl rfl)
theorem dX16_sum_19 : decode cX16_sum 19 = .ok (.aload_n 0, 1) := dk_42 (dk_at dksX16_sum_0 19 rfl rfl)
theorem dX16_sum_20 : decode cX16_sum 20 = .ok (.dup, 1) := dk_89 (dk_at dksX16_sum_0 20 rfl rfl)
theorem dX16_sum_21 : decode cX16_sum 21 = .ok (.getfield 27, 3) := dk_180 0 27 (dk_at dksX16_sum_0 21 rfl rfl)
theorem dX16_sum_24 : decode cX16_sum 24 = .ok (.iconst 1, 1) := dk_4 (dk_at dksX16_sum_1 0 rfl rfl)
theorem dX16_sum_25 : decode cX16_sum 25 = .ok (.iadd, 1) := dk_96 (dk_at dksX16_sum_1 1 rfl rfl)
theorem dX16_sum_26 : decode cX16_sum 26 = .ok (.putfield 27, 3) := dk_181 0 27 (dk_at dksX16_sum_1 2 rfl rfl)
theorem dX16_sum_29 : decode cX16_sum 29 = .ok (.new 58, 3) := dk_187 0 58 (dk_at dksX16_sum_1 5 rfl rfl)
theorem dX16_sum_32 : decode cX16_sum 32 = .ok (.dup, 1) := dk_89 (dk_at dksX16_sum_1 8 rfl rfl)
theorem dX16_sum_33 : decode cX16_sum 33 = .ok (.iload_n 2, 1) := dk_28 (dk_at dksX16_sum_1 9 rfl rfl)
theorem dX16_sum_34 : decode cX16_sum 34 = .ok (.aload_n 1, 1) := dk_43 (dk_at dksX16_sum_1 10 rfl rfl)
theorem dX16_sum_35 : decode cX16_sum 35 = .ok (.aload_n 0, 1) := dk_42 (dk_at dksX16_sum_1 11 rfl rfl)
theorem dX16_sum_36 : decode cX16_sum 36 = .ok (.invokevirtual 73, 3) := dk_182 0 73 (dk_at dksX16_sum_1 12 rfl rfl)
theorem dX16_sum_39 : decode cX16_sum 39 = .ok (.invokespecial 60, 3) := dk_183 0 60 (dk_at dksX16_sum_1 15 rfl rfl)
theorem dX16_sum_42 : decode cX16_sum 42 = .ok (.astore_n 1, 1) := dk_76 (dk_at dksX16_sum_1 18 rfl rfl)
theorem dX16_sum_43 : decode cX16_sum 43 = .ok (.goto (-38), 3) := dk_167 255 218 (dk_at dksX16_sum_1 19 rfl rfl)
theorem dX16_sum_46 : decode cX16_sum 46 = .ok (.aload_n 1, 1) := dk_43 (dk_at dksX16_sum_1 22 rfl rfl)
theorem dX16_sum_47 : decode cX16_sum 47 = .ok (.areturn, 1) := dk_176 (dk_at dksX16_sum_1 23 rfl rfl)
abbrev cX16_product : ByteArray := prog_16_method_10_code
def yX16_product : MethodName := ⟨RX16, "product", "()LMeadowMilk$Term;"⟩
def dkwX16_product_1 : List UInt8 := [4, 96, 181, 0, 27, 187, 0, 58, 89, 28, 43, 42, 182, 0, 78, 183, 0, 60, 76, 167, 255, 218, 43, 176]
abbrev dktX16_product_1 : List UInt8 := dkwX16_product_1 ++ []
def dkwX16_product_0 : List UInt8 := [42, 182, 0, 78, 76, 42, 18, 81, 182, 0, 54, 153, 0, 35, 42, 182, 0, 39, 61, 42, 89, 180, 0, 27]
abbrev dktX16_product_0 : List UInt8 := dkwX16_product_0 ++ dktX16_product_1
theorem dksX16_product_0 : cX16_product.data.toList.drop 0 = dktX16_product_0 := by decide +kernel
theorem dksX16_product_1 : cX16_product.data.toList.drop 24 = dktX16_product_1 := dk_seg dksX16_product_0 24 rfl rfl
theorem dX16_product_0 : decode cX16_product 0 = .ok (.aload_n 0, 1) := dk_42 (dk_at dksX16_product_0 0 rfl rfl)
theorem dX16_product_1 : decode cX16_product 1 = .ok (.invokevirtual 78, 3) := dk_182 0 78 (dk_at dksX16_product_0 1 rfl rfl)
theorem dX16_product_4 : decode cX16_product 4 = .ok (.astore_n 1, 1) := dk_76 (dk_at dksX16_product_0 4 rfl rfl)
theorem dX16_product_5 : decode cX16_product 5 = .ok (.aload_n 0, 1) := dk_42 (dk_at dksX16_product_0 5 rfl rfl)
theorem dX16_product_6 : decode cX16_product 6 = .ok (.ldc 81, 2) := dk_18 81 (dk_at dksX16_product_0 6 rfl rfl)
theorem dX16_product_8 : decode cX16_product 8 = .ok (.invokevirtual 54, 3) := dk_182 0 54 (dk_at dksX16_product_0 8 rfl rfl)
theorem dX16_product_11 : decode cX16_product 11 = .ok (.ifCond .eq 35, 3) := dk_153 0 35 (dk_at dksX16_product_0 11 rfl rfl)
theorem dX16_product_14 : decode cX16_product 14 = .ok (.aload_n 0, 1) := dk_42 (dk_at dksX16_product_0 14 rfl rfl)
theorem dX16_product_15 : decode cX16_product 15 = .ok (.invokevirtual 39, 3) := dk_182 0 39 (dk_at dksX16_product_0 15 rfl rfl)
theorem dX16_product_18 : decode cX16_product 18 = .ok (.istore_n 2, 1) := dk_61 (dk_at dksX16_product_0 18 rfl rfl)
theorem dX16_product_19 : decode cX16_product 19 = .ok (.aload_n 0, 1) := dk_42 (dk_at dksX16_product_0 19 rfl rfl)
theorem dX16_product_20 : decode cX16_product 20 = .ok (.dup, 1) := dk_89 (dk_at dksX16_product_0 20 rfl rfl)
theorem dX16_product_21 : decode cX16_product 21 = .ok (.getfield 27, 3) := dk_180 0 27 (dk_at dksX16_product_0 21 rfl rfl)
theorem dX16_product_24 : decode cX16_product 24 = .ok (.iconst 1, 1) := dk_4 (dk_at dksX16_product_1 0 rfl rfl)
theorem dX16_product_25 : decode cX16_product 25 = .ok (.iadd, 1) := dk_96 (dk_at dksX16_product_1 1 rfl rfl)
theorem dX16_product_26 : decode cX16_product 26 = .ok (.putfield 27, 3) := dk_181 0 27 (dk_at dksX16_product_1 2 rfl rfl)
theorem dX16_product_29 : decode cX16_product 29 = .ok (.new 58, 3) := dk_187 0 58 (dk_at dksX16_product_1 5 rfl rfl)
theorem dX16_product_32 : decode cX16_product 32 = .ok (.dup, 1) := dk_89 (dk_at dksX16_product_1 8 rfl rfl)
theorem dX16_product_33 : decode cX16_product 33 = .ok (.iload_n 2, 1) := dk_28 (dk_at dksX16_product_1 9 rfl rfl)
theorem dX16_product_34 : decode cX16_product 34 = .ok (.aload_n 1, 1) := dk_43 (dk_at dksX16_product_1 10 rfl rfl)
theorem dX16_product_35 : decode cX16_product 35 = .ok (.aload_n 0, 1) := dk_42 (dk_at dksX16_product_1 11 rfl rfl)
theorem dX16_product_36 : decode cX16_product 36 = .ok (.invokevirtual 78, 3) := dk_182 0 78 (dk_at dksX16_product_1 12 rfl rfl)
theorem dX16_product_39 : decode cX16_product 39 = .ok (.invokespecial 60, 3) := dk_183 0 60 (dk_at dksX16_product_1 15 rfl rfl)
theorem dX16_product_42 : decode cX16_product 42 = .ok (.astore_n 1, 1) := dk_76 (dk_at dksX16_product_1 18 rfl rfl)
theorem dX16_product_43 : decode cX16_product 43 = .ok (.goto (-38), 3) := dk_167 255 218 (dk_at dksX16_product_1 19 rfl rfl)
theorem dX16_product_46 : decode cX16_product 46 = .ok (.aload_n 1, 1) := dk_43 (dk_at dksX16_product_1 22 rfl rfl)
theorem dX16_product_47 : decode cX16_product 47 = .ok (.areturn, 1) := dk_176 (dk_at dksX16_product_1 23 rfl rfl)
abbrev cX16_single : ByteArray := prog_16_method_12_code
def yX16_single : MethodName := ⟨RX16, "single", "()LMeadowMilk$Term;"⟩
def dkwX16_single_9 : List UInt8 := [183, 0, 107, 176]
abbrev dktX16_single_9 : List UInt8 := dkwX16_single_9 ++ []
def dkwX16_single_8 : List UInt8 := [100, 60, 42, 89, 180, 0, 27, 4, 96, 181, 0, 27, 132, 2, 1, 167, 255, 211, 187, 0, 105, 89, 27]
abbrev dktX16_single_8 : List UInt8 := dkwX16_single_8 ++ dktX16_single_9
def dkwX16_single_7 : List UInt8 := [182, 0, 39, 16, 48, 16, 57, 184, 0, 101, 153, 0, 32, 16, 10, 27, 104, 42, 182, 0, 39, 96, 16, 48]
abbrev dktX16_single_7 : List UInt8 := dkwX16_single_7 ++ dktX16_single_8
def dkwX16_single_6 : List UInt8 := [182, 0, 39, 16, 48, 16, 57, 184, 0, 101, 182, 0, 30, 3, 60, 3, 61, 28, 7, 162, 0, 46, 42]
abbrev dktX16_single_6 : List UInt8 := dkwX16_single_6 ++ dktX16_single_7
def dkwX16_single_5 : List UInt8 := [180, 0, 27, 4, 96, 181, 0, 27, 42, 89, 180, 0, 83, 4, 100, 181, 0, 83, 43, 176, 42, 42]
abbrev dktX16_single_5 : List UInt8 := dkwX16_single_5 ++ dktX16_single_6
def dkwX16_single_4 : List UInt8 := [182, 0, 23, 76, 42, 42, 182, 0, 39, 16, 41, 160, 0, 7, 4, 167, 0, 4, 3, 182, 0, 30, 42, 89]
abbrev dktX16_single_4 : List UInt8 := dkwX16_single_4 ++ dktX16_single_5
def dkwX16_single_3 : List UInt8 := [187, 0, 94, 89, 43, 183, 0, 96, 176, 42, 18, 99, 182, 0, 54, 153, 0, 52, 42, 182, 0, 91, 42]
abbrev dktX16_single_3 : List UInt8 := dkwX16_single_3 ++ dktX16_single_4
def dkwX16_single_2 : List UInt8 := [153, 0, 31, 42, 182, 0, 91, 42, 182, 0, 78, 76, 42, 89, 180, 0, 83, 4, 100, 181, 0, 83]
abbrev dktX16_single_2 : List UInt8 := dkwX16_single_2 ++ dktX16_single_3
def dkwX16_single_1 : List UInt8 := [89, 42, 180, 0, 15, 42, 180, 0, 27, 4, 100, 51, 183, 0, 88, 176, 42, 18, 89, 182, 0, 54]
abbrev dktX16_single_1 : List UInt8 := dkwX16_single_1 ++ dktX16_single_2
def dkwX16_single_0 : List UInt8 := [42, 42, 180, 0, 9, 182, 0, 54, 153, 0, 32, 42, 89, 180, 0, 27, 4, 96, 181, 0, 27, 187, 0, 86]
abbrev dktX16_single_0 : List UInt8 := dkwX16_single_0 ++ dktX16_single_1
theorem dksX16_single_0 : cX16_single.data.toList.drop 0 = dktX16_single_0 := by decide +kernel
theorem dksX16_single_1 : cX16_single.data.toList.drop 24 = dktX16_single_1 := dk_seg dksX16_single_0 24 rfl rfl
theorem dksX16_single_2 : cX16_single.data.toList.drop 46 = dktX16_single_2 := dk_seg dksX16_single_1 22 rfl rfl
theorem dksX16_single_3 : cX16_single.data.toList.drop 68 = dktX16_single_3 := dk_seg dksX16_single_2 22 rfl rfl
theorem dksX16_single_4 : cX16_single.data.toList.drop 91 = dktX16_single_4 := dk_seg dksX16_single_3 23 rfl rfl
theorem dksX16_single_5 : cX16_single.data.toList.drop 115 = dktX16_single_5 := dk_seg dksX16_single_4 24 rfl rfl
theorem dksX16_single_6 : cX16_single.data.toList.drop 137 = dktX16_single_6 := dk_seg dksX16_single_5 22 rfl rfl
theorem dksX16_single_7 : cX16_single.data.toList.drop 160 = dktX16_single_7 := dk_seg dksX16_single_6 23 rfl rfl
theorem dksX16_single_8 : cX16_single.data.toList.drop 184 = dktX16_single_8 := dk_seg dksX16_single_7 24 rfl rfl
theorem dksX16_single_9 : cX16_single.data.toList.drop 207 = dktX16_single_9 := dk_seg dksX16_single_8 23 rfl rfl
theorem dX16_single_0 : decode cX16_single 0 = .ok (.aload_n 0, 1) := dk_42 (dk_at dksX16_single_0 0 rfl rfl)
theorem dX16_single_1 : decode cX16_single 1 = .ok (.aload_n 0, 1) := dk_42 (dk_at dksX16_single_0 1 rfl rfl)
theorem dX16_single_2 : decode cX16_single 2 = .ok (.getfield 9, 3) := dk_180 0 9 (dk_at dksX16_single_0 2 rfl rfl)
theorem dX16_single_5 : decode cX16_single 5 = .ok (.invokevirtual 54, 3) := dk_182 0 54 (dk_at dksX16_single_0 5 rfl rfl)
theorem dX16_single_8 : decode cX16_single 8 = .ok (.ifCond .eq 32, 3) := dk_153 0 32 (dk_at dksX16_single_0 8 rfl rfl)
theorem dX16_single_11 : decode cX16_single 11 = .ok (.aload_n 0, 1) := dk_42 (dk_at dksX16_single_0 11 rfl rfl)
theorem dX16_single_12 : decode cX16_single 12 = .ok (.dup, 1) := dk_89 (dk_at dksX16_single_0 12 rfl rfl)
theorem dX16_single_13 : decode cX16_single 13 = .ok (.getfield 27, 3) := dk_180 0 27 (dk_at dksX16_single_0 13 rfl rfl)
theorem dX16_single_16 : decode cX16_single 16 = .ok (.iconst 1, 1) := dk_4 (dk_at dksX16_single_0 16 rfl rfl)
theorem dX16_single_17 : decode cX16_single 17 = .ok (.iadd, 1) := dk_96 (dk_at dksX16_single_0 17 rfl rfl)
theorem dX16_single_18 : decode cX16_single 18 = .ok (.putfield 27, 3) := dk_181 0 27 (dk_at dksX16_single_0 18 rfl rfl)
theorem dX16_single_21 : decode cX16_single 21 = .ok (.new 86, 3) := dk_187 0 86 (dk_at dksX16_single_0 21 rfl rfl)
theorem dX16_single_24 : decode cX16_single 24 = .ok (.dup, 1) := dk_89 (dk_at dksX16_single_1 0 rfl rfl)
theorem dX16_single_25 : decode cX16_single 25 = .ok (.aload_n 0, 1) := dk_42 (dk_at dksX16_single_1 1 rfl rfl)
theorem dX16_single_26 : decode cX16_single 26 = .ok (.getfield 15, 3) := dk_180 0 15 (dk_at dksX16_single_1 2 rfl rfl)
theorem dX16_single_29 : decode cX16_single 29 = .ok (.aload_n 0, 1) := dk_42 (dk_at dksX16_single_1 5 rfl rfl)
theorem dX16_single_30 : decode cX16_single 30 = .ok (.getfield 27, 3) := dk_180 0 27 (dk_at dksX16_single_1 6 rfl rfl)
theorem dX16_single_33 : decode cX16_single 33 = .ok (.iconst 1, 1) := dk_4 (dk_at dksX16_single_1 9 rfl rfl)
theorem dX16_single_34 : decode cX16_single 34 = .ok (.isub, 1) := dk_100 (dk_at dksX16_single_1 10 rfl rfl)
theorem dX16_single_35 : decode cX16_single 35 = .ok (.baload, 1) := dk_51 (dk_at dksX16_single_1 11 rfl rfl)
theorem dX16_single_36 : decode cX16_single 36 = .ok (.invokespecial 88, 3) := dk_183 0 88 (dk_at dksX16_single_1 12 rfl rfl)
theorem dX16_single_39 : decode cX16_single 39 = .ok (.areturn, 1) := dk_176 (dk_at dksX16_single_1 15 rfl rfl)
theorem dX16_single_40 : decode cX16_single 40 = .ok (.aload_n 0, 1) := dk_42 (dk_at dksX16_single_1 16 rfl rfl)
theorem dX16_single_41 : decode cX16_single 41 = .ok (.ldc 89, 2) := dk_18 89 (dk_at dksX16_single_1 17 rfl rfl)
theorem dX16_single_43 : decode cX16_single 43 = .ok (.invokevirtual 54, 3) := dk_182 0 54 (dk_at dksX16_single_1 19 rfl rfl)
theorem dX16_single_46 : decode cX16_single 46 = .ok (.ifCond .eq 31, 3) := dk_153 0 31 (dk_at dksX16_single_2 0 rfl rfl)
theorem dX16_single_49 : decode cX16_single 49 = .ok (.aload_n 0, 1) := dk_42 (dk_at dksX16_single_2 3 rfl rfl)
theorem dX16_single_50 : decode cX16_single 50 = .ok (.invokevirtual 91, 3) := dk_182 0 91 (dk_at dksX16_single_2 4 rfl rfl)
theorem dX16_single_53 : decode cX16_single 53 = .ok (.aload_n 0, 1) := dk_42 (dk_at dksX16_single_2 7 rfl rfl)
theorem dX16_single_54 : decode cX16_single 54 = .ok (.invokevirtual 78, 3) := dk_182 0 78 (dk_at dksX16_single_2 8 rfl rfl)
theorem dX16_single_57 : decode cX16_single 57 = .ok (.astore_n 1, 1) := dk_76 (dk_at dksX16_single_2 11 rfl rfl)
theorem dX16_single_58 : decode cX16_single 58 = .ok (.aload_n 0, 1) := dk_42 (dk_at dksX16_single_2 12 rfl rfl)
theorem dX16_single_59 : decode cX16_single 59 = .ok (.dup, 1) := dk_89 (dk_at dksX16_single_2 13 rfl rfl)
theorem dX16_single_60 : decode cX16_single 60 = .ok (.getfield 83, 3) := dk_180 0 83 (dk_at dksX16_single_2 14 rfl rfl)
theorem dX16_single_63 : decode cX16_single 63 = .ok (.iconst 1, 1) := dk_4 (dk_at dksX16_single_2 17 rfl rfl)
theorem dX16_single_64 : decode cX16_single 64 = .ok (.isub, 1) := dk_100 (dk_at dksX16_single_2 18 rfl rfl)
theorem dX16_single_65 : decode cX16_single 65 = .ok (.putfield 83, 3) := dk_181 0 83 (dk_at dksX16_single_2 19 rfl rfl)
theorem dX16_single_68 : decode cX16_single 68 = .ok (.new 94, 3) := dk_187 0 94 (dk_at dksX16_single_3 0 rfl rfl)
theorem dX16_single_71 : decode cX16_single 71 = .ok (.dup, 1) := dk_89 (dk_at dksX16_single_3 3 rfl rfl)
theorem dX16_single_72 : decode cX16_single 72 = .ok (.aload_n 1, 1) := dk_43 (dk_at dksX16_single_3 4 rfl rfl)
theorem dX16_single_73 : decode cX16_single 73 = .ok (.invokespecial 96, 3) := dk_183 0 96 (dk_at dksX16_single_3 5 rfl rfl)
theorem dX16_single_76 : decode cX16_single 76 = .ok (.areturn, 1) := dk_176 (dk_at dksX16_single_3 8 rfl rfl)
theorem dX16_single_77 : decode cX16_single 77 = .ok (.aload_n 0, 1) := dk_42 (dk_at dksX16_single_3 9 rfl rfl)
theorem dX16_single_78 : decode cX16_single 78 = .ok (.ldc 99, 2) := dk_18 99 (dk_at dksX16_single_3 10 rfl rfl)
theorem dX16_single_80 : decode cX16_single 80 = .ok (.invokevirtual 54, 3) := dk_182 0 54 (dk_at dksX16_single_3 12 rfl rfl)
theorem dX16_single_83 : decode cX16_single 83 = .ok (.ifCond .eq 52, 3) := dk_153 0 52 (dk_at dksX16_single_3 15 rfl rfl)
theorem dX16_single_86 : decode cX16_single 86 = .ok (.aload_n 0, 1) := dk_42 (dk_at dksX16_single_3 18 rfl rfl)
theorem dX16_single_87 : decode cX16_single 87 = .ok (.invokevirtual 91, 3) := dk_182 0 91 (dk_at dksX16_single_3 19 rfl rfl)
theorem dX16_single_90 : decode cX16_single 90 = .ok (.aload_n 0, 1) := dk_42 (dk_at dksX16_single_3 22 rfl rfl)
theorem dX16_single_91 : decode cX16_single 91 = .ok (.invokevirtual 23, 3) := dk_182 0 23 (dk_at dksX16_single_4 0 rfl rfl)
theorem dX16_single_94 : decode cX16_single 94 = .ok (.astore_n 1, 1) := dk_76 (dk_at dksX16_single_4 3 rfl rfl)
theorem dX16_single_95 : decode cX16_single 95 = .ok (.aload_n 0, 1) := dk_42 (dk_at dksX16_single_4 4 rfl rfl)
theorem dX16_single_96 : decode cX16_single 96 = .ok (.aload_n 0, 1) := dk_42 (dk_at dksX16_single_4 5 rfl rfl)
theorem dX16_single_97 : decode cX16_single 97 = .ok (.invokevirtual 39, 3) := dk_182 0 39 (dk_at dksX16_single_4 6 rfl rfl)
theorem dX16_single_100 : decode cX16_single 100 = .ok (.bipush 41, 2) := dk_16 41 (dk_at dksX16_single_4 9 rfl rfl)
theorem dX16_single_102 : decode cX16_single 102 = .ok (.if_icmp .ne 7, 3) := dk_160 0 7 (dk_at dksX16_single_4 11 rfl rfl)
theorem dX16_single_105 : decode cX16_single 105 = .ok (.iconst 1, 1) := dk_4 (dk_at dksX16_single_4 14 rfl rfl)
theorem dX16_single_106 : decode cX16_single 106 = .ok (.goto 4, 3) := dk_167 0 4 (dk_at dksX16_single_4 15 rfl rfl)
theorem dX16_single_109 : decode cX16_single 109 = .ok (.iconst 0, 1) := dk_3 (dk_at dksX16_single_4 18 rfl rfl)
theorem dX16_single_110 : decode cX16_single 110 = .ok (.invokevirtual 30, 3) := dk_182 0 30 (dk_at dksX16_single_4 19 rfl rfl)
theorem dX16_single_113 : decode cX16_single 113 = .ok (.aload_n 0, 1) := dk_42 (dk_at dksX16_single_4 22 rfl rfl)
theorem dX16_single_114 : decode cX16_single 114 = .ok (.dup, 1) := dk_89 (dk_at dksX16_single_4 23 rfl rfl)
theorem dX16_single_115 : decode cX16_single 115 = .ok (.getfield 27, 3) := dk_180 0 27 (dk_at dksX16_single_5 0 rfl rfl)
theorem dX16_single_118 : decode cX16_single 118 = .ok (.iconst 1, 1) := dk_4 (dk_at dksX16_single_5 3 rfl rfl)
theorem dX16_single_119 : decode cX16_single 119 = .ok (.iadd, 1) := dk_96 (dk_at dksX16_single_5 4 rfl rfl)
theorem dX16_single_120 : decode cX16_single 120 = .ok (.putfield 27, 3) := dk_181 0 27 (dk_at dksX16_single_5 5 rfl rfl)
theorem dX16_single_123 : decode cX16_single 123 = .ok (.aload_n 0, 1) := dk_42 (dk_at dksX16_single_5 8 rfl rfl)
theorem dX16_single_124 : decode cX16_single 124 = .ok (.dup, 1) := dk_89 (dk_at dksX16_single_5 9 rfl rfl)
theorem dX16_single_125 : decode cX16_single 125 = .ok (.getfield 83, 3) := dk_180 0 83 (dk_at dksX16_single_5 10 rfl rfl)
theorem dX16_single_128 : decode cX16_single 128 = .ok (.iconst 1, 1) := dk_4 (dk_at dksX16_single_5 13 rfl rfl)
theorem dX16_single_129 : decode cX16_single 129 = .ok (.isub, 1) := dk_100 (dk_at dksX16_single_5 14 rfl rfl)
theorem dX16_single_130 : decode cX16_single 130 = .ok (.putfield 83, 3) := dk_181 0 83 (dk_at dksX16_single_5 15 rfl rfl)
theorem dX16_single_133 : decode cX16_single 133 = .ok (.aload_n 1, 1) := dk_43 (dk_at dksX16_single_5 18 rfl rfl)
theorem dX16_single_134 : decode cX16_single 134 = .ok (.areturn, 1) := dk_176 (dk_at dksX16_single_5 19 rfl rfl)
theorem dX16_single_135 : decode cX16_single 135 = .ok (.aload_n 0, 1) := dk_42 (dk_at dksX16_single_5 20 rfl rfl)
theorem dX16_single_136 : decode cX16_single 136 = .ok (.aload_n 0, 1) := dk_42 (dk_at dksX16_single_5 21 rfl rfl)
theorem dX16_single_137 : decode cX16_single 137 = .ok (.invokevirtual 39, 3) := dk_182 0 39 (dk_at dksX16_single_6 0 rfl rfl)
theorem dX16_single_140 : decode cX16_single 140 = .ok (.bipush 48, 2) := dk_16 48 (dk_at dksX16_single_6 3 rfl rfl)
theorem dX16_single_142 : decode cX16_single 142 = .ok (.bipush 57, 2) := dk_16 57 (dk_at dksX16_single_6 5 rfl rfl)
theorem dX16_single_144 : decode cX16_single 144 = .ok (.invokestatic 101, 3) := dk_184 0 101 (dk_at dksX16_single_6 7 rfl rfl)
theorem dX16_single_147 : decode cX16_single 147 = .ok (.invokevirtual 30, 3) := dk_182 0 30 (dk_at dksX16_single_6 10 rfl rfl)
theorem dX16_single_150 : decode cX16_single 150 = .ok (.iconst 0, 1) := dk_3 (dk_at dksX16_single_6 13 rfl rfl)
theorem dX16_single_151 : decode cX16_single 151 = .ok (.istore_n 1, 1) := dk_60 (dk_at dksX16_single_6 14 rfl rfl)
theorem dX16_single_152 : decode cX16_single 152 = .ok (.iconst 0, 1) := dk_3 (dk_at dksX16_single_6 15 rfl rfl)
theorem dX16_single_153 : decode cX16_single 153 = .ok (.istore_n 2, 1) := dk_61 (dk_at dksX16_single_6 16 rfl rfl)
theorem dX16_single_154 : decode cX16_single 154 = .ok (.iload_n 2, 1) := dk_28 (dk_at dksX16_single_6 17 rfl rfl)
theorem dX16_single_155 : decode cX16_single 155 = .ok (.iconst 4, 1) := dk_7 (dk_at dksX16_single_6 18 rfl rfl)
theorem dX16_single_156 : decode cX16_single 156 = .ok (.if_icmp .ge 46, 3) := dk_162 0 46 (dk_at dksX16_single_6 19 rfl rfl)
theorem dX16_single_159 : decode cX16_single 159 = .ok (.aload_n 0, 1) := dk_42 (dk_at dksX16_single_6 22 rfl rfl)
theorem dX16_single_160 : decode cX16_single 160 = .ok (.invokevirtual 39, 3) := dk_182 0 39 (dk_at dksX16_single_7 0 rfl rfl)
theorem dX16_single_163 : decode cX16_single 163 = .ok (.bipush 48, 2) := dk_16 48 (dk_at dksX16_single_7 3 rfl rfl)
theorem dX16_single_165 : decode cX16_single 165 = .ok (.bipush 57, 2) := dk_16 57 (dk_at dksX16_single_7 5 rfl rfl)
theorem dX16_single_167 : decode cX16_single 167 = .ok (.invokestatic 101, 3) := dk_184 0 101 (dk_at dksX16_single_7 7 rfl rfl)
theorem dX16_single_170 : decode cX16_single 170 = .ok (.ifCond .eq 32, 3) := dk_153 0 32 (dk_at dksX16_single_7 10 rfl rfl)
theorem dX16_single_173 : decode cX16_single 173 = .ok (.bipush 10, 2) := dk_16 10 (dk_at dksX16_single_7 13 rfl rfl)
theorem dX16_single_175 : decode cX16_single 175 = .ok (.iload_n 1, 1) := dk_27 (dk_at dksX16_single_7 15 rfl rfl)
theorem dX16_single_176 : decode cX16_single 176 = .ok (.imul, 1) := dk_104 (dk_at dksX16_single_7 16 rfl rfl)
theorem dX16_single_177 : decode cX16_single 177 = .ok (.aload_n 0, 1) := dk_42 (dk_at dksX16_single_7 17 rfl rfl)
theorem dX16_single_178 : decode cX16_single 178 = .ok (.invokevirtual 39, 3) := dk_182 0 39 (dk_at dksX16_single_7 18 rfl rfl)
theorem dX16_single_181 : decode cX16_single 181 = .ok (.iadd, 1) := dk_96 (dk_at dksX16_single_7 21 rfl rfl)
theorem dX16_single_182 : decode cX16_single 182 = .ok (.bipush 48, 2) := dk_16 48 (dk_at dksX16_single_7 22 rfl rfl)
theorem dX16_single_184 : decode cX16_single 184 = .ok (.isub, 1) := dk_100 (dk_at dksX16_single_8 0 rfl rfl)
theorem dX16_single_185 : decode cX16_single 185 = .ok (.istore_n 1, 1) := dk_60 (dk_at dksX16_single_8 1 rfl rfl)
theorem dX16_single_186 : decode cX16_single 186 = .ok (.aload_n 0, 1) := dk_42 (dk_at dksX16_single_8 2 rfl rfl)
theorem dX16_single_187 : decode cX16_single 187 = .ok (.dup, 1) := dk_89 (dk_at dksX16_single_8 3 rfl rfl)
theorem dX16_single_188 : decode cX16_single 188 = .ok (.getfield 27, 3) := dk_180 0 27 (dk_at dksX16_single_8 4 rfl rfl)
theorem dX16_single_191 : decode cX16_single 191 = .ok (.iconst 1, 1) := dk_4 (dk_at dksX16_single_8 7 rfl rfl)
theorem dX16_single_192 : decode cX16_single 192 = .ok (.iadd, 1) := dk_96 (dk_at dksX16_single_8 8 rfl rfl)
theorem dX16_single_193 : decode cX16_single 193 = .ok (.putfield 27, 3) := dk_181 0 27 (dk_at dksX16_single_8 9 rfl rfl)
theorem dX16_single_196 : decode cX16_single 196 = .ok (.iinc 2 1, 3) := dk_132 2 1 (dk_at dksX16_single_8 12 rfl rfl)
theorem dX16_single_199 : decode cX16_single 199 = .ok (.goto (-45), 3) := dk_167 255 211 (dk_at dksX16_single_8 15 rfl rfl)
theorem dX16_single_202 : decode cX16_single 202 = .ok (.new 105, 3) := dk_187 0 105 (dk_at dksX16_single_8 18 rfl rfl)
theorem dX16_single_205 : decode cX16_single 205 = .ok (.dup, 1) := dk_89 (dk_at dksX16_single_8 21 rfl rfl)
theorem dX16_single_206 : decode cX16_single 206 = .ok (.iload_n 1, 1) := dk_27 (dk_at dksX16_single_8 22 rfl rfl)
theorem dX16_single_207 : decode cX16_single 207 = .ok (.invokespecial 107, 3) := dk_183 0 107 (dk_at dksX16_single_9 0 rfl rfl)
theorem dX16_single_210 : decode cX16_single 210 = .ok (.areturn, 1) := dk_176 (dk_at dksX16_single_9 3 rfl rfl)
abbrev cX16_isOne : ByteArray := prog_16_method_5_code
def yX16_isOne : MethodName := ⟨RX16, "isOne", "(Ljava/lang/String;)Z"⟩
def dkwX16_isOne_0 : List UInt8 := [42, 182, 0, 39, 155, 0, 18, 43, 42, 182, 0, 39, 182, 0, 43, 155, 0, 7, 4, 167, 0, 4, 3, 172]
abbrev dktX16_isOne_0 : List UInt8 := dkwX16_isOne_0 ++ []
theorem dksX16_isOne_0 : cX16_isOne.data.toList.drop 0 = dktX16_isOne_0 := by decide +kernel
theorem dX16_isOne_0 : decode cX16_isOne 0 = .ok (.aload_n 0, 1) := dk_42 (dk_at dksX16_isOne_0 0 rfl rfl)
theorem dX16_isOne_1 : decode cX16_isOne 1 = .ok (.invokevirtual 39, 3) := dk_182 0 39 (dk_at dksX16_isOne_0 1 rfl rfl)
theorem dX16_isOne_4 : decode cX16_isOne 4 = .ok (.ifCond .lt 18, 3) := dk_155 0 18 (dk_at dksX16_isOne_0 4 rfl rfl)
theorem dX16_isOne_7 : decode cX16_isOne 7 = .ok (.aload_n 1, 1) := dk_43 (dk_at dksX16_isOne_0 7 rfl rfl)
theorem dX16_isOne_8 : decode cX16_isOne 8 = .ok (.aload_n 0, 1) := dk_42 (dk_at dksX16_isOne_0 8 rfl rfl)
theorem dX16_isOne_9 : decode cX16_isOne 9 = .ok (.invokevirtual 39, 3) := dk_182 0 39 (dk_at dksX16_isOne_0 9 rfl rfl)
theorem dX16_isOne_12 : decode cX16_isOne 12 = .ok (.invokevirtual 43, 3) := dk_182 0 43 (dk_at dksX16_isOne_0 12 rfl rfl)
theorem dX16_isOne_15 : decode cX16_isOne 15 = .ok (.ifCond .lt 7, 3) := dk_155 0 7 (dk_at dksX16_isOne_0 15 rfl rfl)
theorem dX16_isOne_18 : decode cX16_isOne 18 = .ok (.iconst 1, 1) := dk_4 (dk_at dksX16_isOne_0 18 rfl rfl)
theorem dX16_isOne_19 : decode cX16_isOne 19 = .ok (.goto 4, 3) := dk_167 0 4 (dk_at dksX16_isOne_0 19 rfl rfl)
theorem dX16_isOne_22 : decode cX16_isOne 22 = .ok (.iconst 0, 1) := dk_3 (dk_at dksX16_isOne_0 22 rfl rfl)
theorem dX16_isOne_23 : decode cX16_isOne 23 = .ok (.ireturn, 1) := dk_172 (dk_at dksX16_isOne_0 23 rfl rfl)
abbrev cX16_look : ByteArray := prog_16_method_3_code
def yX16_look : MethodName := ⟨RX16, "look", "()I"⟩
def dkwX16_look_1 : List UInt8 := [167, 0, 4, 2, 172]
abbrev dktX16_look_1 : List UInt8 := dkwX16_look_1 ++ []
def dkwX16_look_0 : List UInt8 := [42, 180, 0, 27, 42, 180, 0, 19, 162, 0, 19, 42, 180, 0, 15, 42, 180, 0, 27, 51, 17, 0, 255, 126]
abbrev dktX16_look_0 : List UInt8 := dkwX16_look_0 ++ dktX16_look_1
theorem dksX16_look_0 : cX16_look.data.toList.drop 0 = dktX16_look_0 := by decide +kernel
theorem dksX16_look_1 : cX16_look.data.toList.drop 24 = dktX16_look_1 := dk_seg dksX16_look_0 24 rfl rfl
theorem dX16_look_0 : decode cX16_look 0 = .ok (.aload_n 0, 1) := dk_42 (dk_at dksX16_look_0 0 rfl rfl)
theorem dX16_look_1 : decode cX16_look 1 = .ok (.getfield 27, 3) := dk_180 0 27 (dk_at dksX16_look_0 1 rfl rfl)
theorem dX16_look_4 : decode cX16_look 4 = .ok (.aload_n 0, 1) := dk_42 (dk_at dksX16_look_0 4 rfl rfl)
theorem dX16_look_5 : decode cX16_look 5 = .ok (.getfield 19, 3) := dk_180 0 19 (dk_at dksX16_look_0 5 rfl rfl)
theorem dX16_look_8 : decode cX16_look 8 = .ok (.if_icmp .ge 19, 3) := dk_162 0 19 (dk_at dksX16_look_0 8 rfl rfl)
theorem dX16_look_11 : decode cX16_look 11 = .ok (.aload_n 0, 1) := dk_42 (dk_at dksX16_look_0 11 rfl rfl)
theorem dX16_look_12 : decode cX16_look 12 = .ok (.getfield 15, 3) := dk_180 0 15 (dk_at dksX16_look_0 12 rfl rfl)
theorem dX16_look_15 : decode cX16_look 15 = .ok (.aload_n 0, 1) := dk_42 (dk_at dksX16_look_0 15 rfl rfl)
theorem dX16_look_16 : decode cX16_look 16 = .ok (.getfield 27, 3) := dk_180 0 27 (dk_at dksX16_look_0 16 rfl rfl)
theorem dX16_look_19 : decode cX16_look 19 = .ok (.baload, 1) := dk_51 (dk_at dksX16_look_0 19 rfl rfl)
theorem dX16_look_20 : decode cX16_look 20 = .ok (.sipush 255, 3) := dk_17 0 255 (dk_at dksX16_look_0 20 rfl rfl)
theorem dX16_look_23 : decode cX16_look 23 = .ok (.iand, 1) := dk_126 (dk_at dksX16_look_0 23 rfl rfl)
theorem dX16_look_24 : decode cX16_look 24 = .ok (.goto 4, 3) := dk_167 0 4 (dk_at dksX16_look_1 0 rfl rfl)
theorem dX16_look_27 : decode cX16_look 27 = .ok (.iconst (-1), 1) := dk_2 (dk_at dksX16_look_1 3 rfl rfl)
theorem dX16_look_28 : decode cX16_look 28 = .ok (.ireturn, 1) := dk_172 (dk_at dksX16_look_1 4 rfl rfl)
abbrev cX16_opens : ByteArray := prog_16_method_11_code
def yX16_opens : MethodName := ⟨RX16, "opens", "()V"⟩
def dkwX16_opens_1 : List UInt8 := [181, 0, 83, 42, 89, 180, 0, 27, 4, 96, 181, 0, 27, 177]
abbrev dktX16_opens_1 : List UInt8 := dkwX16_opens_1 ++ []
def dkwX16_opens_0 : List UInt8 := [42, 42, 180, 0, 83, 8, 162, 0, 7, 4, 167, 0, 4, 3, 182, 0, 30, 42, 89, 180, 0, 83, 4, 96]
abbrev dktX16_opens_0 : List UInt8 := dkwX16_opens_0 ++ dktX16_opens_1
theorem dksX16_opens_0 : cX16_opens.data.toList.drop 0 = dktX16_opens_0 := by decide +kernel
theorem dksX16_opens_1 : cX16_opens.data.toList.drop 24 = dktX16_opens_1 := dk_seg dksX16_opens_0 24 rfl rfl
theorem dX16_opens_0 : decode cX16_opens 0 = .ok (.aload_n 0, 1) := dk_42 (dk_at dksX16_opens_0 0 rfl rfl)
theorem dX16_opens_1 : decode cX16_opens 1 = .ok (.aload_n 0, 1) := dk_42 (dk_at dksX16_opens_0 1 rfl rfl)
theorem dX16_opens_2 : decode cX16_opens 2 = .ok (.getfield 83, 3) := dk_180 0 83 (dk_at dksX16_opens_0 2 rfl rfl)
theorem dX16_opens_5 : decode cX16_opens 5 = .ok (.iconst 5, 1) := dk_8 (dk_at dksX16_opens_0 5 rfl rfl)
theorem dX16_opens_6 : decode cX16_opens 6 = .ok (.if_icmp .ge 7, 3) := dk_162 0 7 (dk_at dksX16_opens_0 6 rfl rfl)
theorem dX16_opens_9 : decode cX16_opens 9 = .ok (.iconst 1, 1) := dk_4 (dk_at dksX16_opens_0 9 rfl rfl)
theorem dX16_opens_10 : decode cX16_opens 10 = .ok (.goto 4, 3) := dk_167 0 4 (dk_at dksX16_opens_0 10 rfl rfl)
theorem dX16_opens_13 : decode cX16_opens 13 = .ok (.iconst 0, 1) := dk_3 (dk_at dksX16_opens_0 13 rfl rfl)
theorem dX16_opens_14 : decode cX16_opens 14 = .ok (.invokevirtual 30, 3) := dk_182 0 30 (dk_at dksX16_opens_0 14 rfl rfl)
theorem dX16_opens_17 : decode cX16_opens 17 = .ok (.aload_n 0, 1) := dk_42 (dk_at dksX16_opens_0 17 rfl rfl)
theorem dX16_opens_18 : decode cX16_opens 18 = .ok (.dup, 1) := dk_89 (dk_at dksX16_opens_0 18 rfl rfl)
theorem dX16_opens_19 : decode cX16_opens 19 = .ok (.getfield 83, 3) := dk_180 0 83 (dk_at dksX16_opens_0 19 rfl rfl)
theorem dX16_opens_22 : decode cX16_opens 22 = .ok (.iconst 1, 1) := dk_4 (dk_at dksX16_opens_0 22 rfl rfl)
theorem dX16_opens_23 : decode cX16_opens 23 = .ok (.iadd, 1) := dk_96 (dk_at dksX16_opens_0 23 rfl rfl)
theorem dX16_opens_24 : decode cX16_opens 24 = .ok (.putfield 83, 3) := dk_181 0 83 (dk_at dksX16_opens_1 0 rfl rfl)
theorem dX16_opens_27 : decode cX16_opens 27 = .ok (.aload_n 0, 1) := dk_42 (dk_at dksX16_opens_1 3 rfl rfl)
theorem dX16_opens_28 : decode cX16_opens 28 = .ok (.dup, 1) := dk_89 (dk_at dksX16_opens_1 4 rfl rfl)
theorem dX16_opens_29 : decode cX16_opens 29 = .ok (.getfield 27, 3) := dk_180 0 27 (dk_at dksX16_opens_1 5 rfl rfl)
theorem dX16_opens_32 : decode cX16_opens 32 = .ok (.iconst 1, 1) := dk_4 (dk_at dksX16_opens_1 8 rfl rfl)
theorem dX16_opens_33 : decode cX16_opens 33 = .ok (.iadd, 1) := dk_96 (dk_at dksX16_opens_1 9 rfl rfl)
theorem dX16_opens_34 : decode cX16_opens 34 = .ok (.putfield 27, 3) := dk_181 0 27 (dk_at dksX16_opens_1 10 rfl rfl)
theorem dX16_opens_37 : decode cX16_opens 37 = .ok (.return_, 1) := dk_177 (dk_at dksX16_opens_1 13 rfl rfl)
abbrev cX16_fault : ByteArray := prog_16_method_4_code
def yX16_fault : MethodName := ⟨RX16, "fault", "(Z)V"⟩
def dkwX16_fault_0 : List UInt8 := [27, 154, 0, 15, 187, 0, 34, 89, 42, 180, 0, 27, 183, 0, 36, 191, 177]
abbrev dktX16_fault_0 : List UInt8 := dkwX16_fault_0 ++ []
theorem dksX16_fault_0 : cX16_fault.data.toList.drop 0 = dktX16_fault_0 := by decide +kernel
theorem dX16_fault_0 : decode cX16_fault 0 = .ok (.iload_n 1, 1) := dk_27 (dk_at dksX16_fault_0 0 rfl rfl)
theorem dX16_fault_1 : decode cX16_fault 1 = .ok (.ifCond .ne 15, 3) := dk_154 0 15 (dk_at dksX16_fault_0 1 rfl rfl)
theorem dX16_fault_4 : decode cX16_fault 4 = .ok (.new 34, 3) := dk_187 0 34 (dk_at dksX16_fault_0 4 rfl rfl)
theorem dX16_fault_7 : decode cX16_fault 7 = .ok (.dup, 1) := dk_89 (dk_at dksX16_fault_0 7 rfl rfl)
theorem dX16_fault_8 : decode cX16_fault 8 = .ok (.aload_n 0, 1) := dk_42 (dk_at dksX16_fault_0 8 rfl rfl)
theorem dX16_fault_9 : decode cX16_fault 9 = .ok (.getfield 27, 3) := dk_180 0 27 (dk_at dksX16_fault_0 9 rfl rfl)
theorem dX16_fault_12 : decode cX16_fault 12 = .ok (.invokespecial 36, 3) := dk_183 0 36 (dk_at dksX16_fault_0 12 rfl rfl)
theorem dX16_fault_15 : decode cX16_fault 15 = .ok (.athrow, 1) := dk_191 (dk_at dksX16_fault_0 15 rfl rfl)
theorem dX16_fault_16 : decode cX16_fault 16 = .ok (.return_, 1) := dk_177 (dk_at dksX16_fault_0 16 rfl rfl)
theorem q81 : (Jvm.Cond.initialized "MeadowMilk$Reader") ∈ lw_all := lw_g (lw_at lw_m1 21 rfl) rfl
theorem q682 : (Jvm.Cond.instantiable "MeadowMilk$Reader" (5 : Nat)) ∈ lw_all := lw_g (lw_at lw_m3 142 rfl) rfl
theorem q686 : (Jvm.Cond.instanceMethod ({ cls := "MeadowMilk$Reader", name := "<init>", desc := "(Ljava/lang/String;[BI)V" } : Jvm.MethodName)) ∈ lw_all := lw_g (lw_at lw_m3 146 rfl) rfl
theorem q687 : (Jvm.Cond.code ({ cls := "MeadowMilk$Reader", name := "<init>", desc := "(Ljava/lang/String;[BI)V" } : Jvm.MethodName) prog_16_method_1_code (4 : Nat) (Option.none : Option Jvm.ClassFile.FieldType)) ∈ lw_all := lw_g (lw_at lw_m3 147 rfl) rfl
theorem q688 : (Jvm.Cond.methodLink "MeadowMilk$Reader" (3 : Nat) ({ cls := "java/lang/Object", name := "<init>", desc := "()V" } : Jvm.MethodName)) ∈ lw_all := lw_g (lw_at lw_m3 148 rfl) rfl
theorem q689 : (Jvm.Cond.fieldLink "MeadowMilk$Reader" (9 : Nat) "MeadowMilk$Reader" "names" "Ljava/lang/String;") ∈ lw_all := lw_g (lw_at lw_m3 149 rfl) rfl
theorem q690 : (Jvm.Cond.fieldLink "MeadowMilk$Reader" (15 : Nat) "MeadowMilk$Reader" "bytes" "[B") ∈ lw_all := lw_g (lw_at lw_m3 150 rfl) rfl
theorem q691 : (Jvm.Cond.fieldLink "MeadowMilk$Reader" (19 : Nat) "MeadowMilk$Reader" "size" "I") ∈ lw_all := lw_g (lw_at lw_m3 151 rfl) rfl
theorem q692 : (Jvm.Cond.fieldLink "MeadowMilk$Reader" (27 : Nat) "MeadowMilk$Reader" "at" "I") ∈ lw_all := lw_g (lw_at lw_m3 152 rfl) rfl
theorem q693 : (Jvm.Cond.fieldLink "MeadowMilk$Reader" (83 : Nat) "MeadowMilk$Reader" "open" "I") ∈ lw_all := lw_g (lw_at lw_m3 153 rfl) rfl
theorem q694 : (Jvm.Cond.laysFinal "MeadowMilk$Reader" "MeadowMilk$Reader" "names" "Ljava/lang/String;") ∈ lw_all := lw_g (lw_at lw_m3 154 rfl) rfl
theorem q695 : (Jvm.Cond.soleField "MeadowMilk$Reader" "names") ∈ lw_all := lw_g (lw_at lw_m3 155 rfl) rfl
theorem q696 : (Jvm.Cond.laysFinal "MeadowMilk$Reader" "MeadowMilk$Reader" "bytes" "[B") ∈ lw_all := lw_g (lw_at lw_m3 156 rfl) rfl
theorem q697 : (Jvm.Cond.soleField "MeadowMilk$Reader" "bytes") ∈ lw_all := lw_g (lw_at lw_m3 157 rfl) rfl
theorem q698 : (Jvm.Cond.laysFinal "MeadowMilk$Reader" "MeadowMilk$Reader" "size" "I") ∈ lw_all := lw_g (lw_at lw_m3 158 rfl) rfl
theorem q699 : (Jvm.Cond.soleField "MeadowMilk$Reader" "size") ∈ lw_all := lw_g (lw_at lw_m3 159 rfl) rfl
theorem q700 : (Jvm.Cond.lays "MeadowMilk$Reader" "MeadowMilk$Reader" "at" "I") ∈ lw_all := lw_g (lw_at lw_m3 160 rfl) rfl
theorem q701 : (Jvm.Cond.soleField "MeadowMilk$Reader" "at") ∈ lw_all := lw_g (lw_at lw_m3 161 rfl) rfl
theorem q702 : (Jvm.Cond.lays "MeadowMilk$Reader" "MeadowMilk$Reader" "open" "I") ∈ lw_all := lw_g (lw_at lw_m3 162 rfl) rfl
theorem q703 : (Jvm.Cond.soleField "MeadowMilk$Reader" "open") ∈ lw_all := lw_g (lw_at lw_m3 163 rfl) rfl
theorem q704 : (Jvm.Cond.superclass "MeadowMilk$Reader" "java/lang/Object") ∈ lw_all := lw_g (lw_at lw_m3 164 rfl) rfl
theorem q706 : (Jvm.Cond.instanceMethod ({ cls := "MeadowMilk$Reader", name := "read", desc := "()LMeadowMilk$Term;" } : Jvm.MethodName)) ∈ lw_all := lw_g (lw_at lw_m3 166 rfl) rfl
theorem q707 : (Jvm.Cond.selects "MeadowMilk$Reader" ({ cls := "MeadowMilk$Reader", name := "read", desc := "()LMeadowMilk$Term;" } : Jvm.MethodName) ({ cls := "MeadowMilk$Reader", name := "read", desc := "()LMeadowMilk$Term;" } : Jvm.MethodName)) ∈ lw_all := lw_g (lw_at lw_m3 167 rfl) rfl
theorem q708 : (Jvm.Cond.code ({ cls := "MeadowMilk$Reader", name := "read", desc := "()LMeadowMilk$Term;" } : Jvm.MethodName) prog_16_method_2_code (2 : Nat) (Option.some (Jvm.ClassFile.FieldType.object "MeadowMilk$Term"))) ∈ lw_all := lw_g (lw_at lw_m3 168 rfl) rfl
theorem q709 : (Jvm.Cond.methodLink "MeadowMilk$Reader" (23 : Nat) ({ cls := "MeadowMilk$Reader", name := "either", desc := "()LMeadowMilk$Term;" } : Jvm.MethodName)) ∈ lw_all := lw_g (lw_at lw_m3 169 rfl) rfl
theorem q710 : (Jvm.Cond.privateMethod ({ cls := "MeadowMilk$Reader", name := "either", desc := "()LMeadowMilk$Term;" } : Jvm.MethodName)) ∈ lw_tbl := lw_at lw_m3 170 rfl
theorem q711 : (Jvm.Cond.instanceMethod ({ cls := "MeadowMilk$Reader", name := "either", desc := "()LMeadowMilk$Term;" } : Jvm.MethodName)) ∈ lw_all := lw_g (lw_at lw_m3 171 rfl) rfl
theorem q712 : (Jvm.Cond.code ({ cls := "MeadowMilk$Reader", name := "either", desc := "()LMeadowMilk$Term;" } : Jvm.MethodName) prog_16_method_6_code (2 : Nat) (Option.some (Jvm.ClassFile.FieldType.object "MeadowMilk$Term"))) ∈ lw_all := lw_g (lw_at lw_m3 172 rfl) rfl
theorem q713 : (Jvm.Cond.methodLink "MeadowMilk$Reader" (49 : Nat) ({ cls := "MeadowMilk$Reader", name := "both", desc := "()LMeadowMilk$Term;" } : Jvm.MethodName)) ∈ lw_all := lw_g (lw_at lw_m3 173 rfl) rfl
theorem q714 : (Jvm.Cond.privateMethod ({ cls := "MeadowMilk$Reader", name := "both", desc := "()LMeadowMilk$Term;" } : Jvm.MethodName)) ∈ lw_tbl := lw_at lw_m3 174 rfl
theorem q715 : (Jvm.Cond.instanceMethod ({ cls := "MeadowMilk$Reader", name := "both", desc := "()LMeadowMilk$Term;" } : Jvm.MethodName)) ∈ lw_all := lw_g (lw_at lw_m3 175 rfl) rfl
theorem q716 : (Jvm.Cond.code ({ cls := "MeadowMilk$Reader", name := "both", desc := "()LMeadowMilk$Term;" } : Jvm.MethodName) prog_16_method_7_code (2 : Nat) (Option.some (Jvm.ClassFile.FieldType.object "MeadowMilk$Term"))) ∈ lw_all := lw_g (lw_at lw_m3 176 rfl) rfl
theorem q717 : (Jvm.Cond.methodLink "MeadowMilk$Reader" (63 : Nat) ({ cls := "MeadowMilk$Reader", name := "relation", desc := "()LMeadowMilk$Term;" } : Jvm.MethodName)) ∈ lw_all := lw_g (lw_at lw_m3 177 rfl) rfl
theorem q718 : (Jvm.Cond.privateMethod ({ cls := "MeadowMilk$Reader", name := "relation", desc := "()LMeadowMilk$Term;" } : Jvm.MethodName)) ∈ lw_tbl := lw_at lw_m3 178 rfl
theorem q719 : (Jvm.Cond.instanceMethod ({ cls := "MeadowMilk$Reader", name := "relation", desc := "()LMeadowMilk$Term;" } : Jvm.MethodName)) ∈ lw_all := lw_g (lw_at lw_m3 179 rfl) rfl
theorem q720 : (Jvm.Cond.code ({ cls := "MeadowMilk$Reader", name := "relation", desc := "()LMeadowMilk$Term;" } : Jvm.MethodName) prog_16_method_8_code (3 : Nat) (Option.some (Jvm.ClassFile.FieldType.object "MeadowMilk$Term"))) ∈ lw_all := lw_g (lw_at lw_m3 180 rfl) rfl
theorem q721 : (Jvm.Cond.methodLink "MeadowMilk$Reader" (68 : Nat) ({ cls := "MeadowMilk$Reader", name := "sum", desc := "()LMeadowMilk$Term;" } : Jvm.MethodName)) ∈ lw_all := lw_g (lw_at lw_m3 181 rfl) rfl
theorem q722 : (Jvm.Cond.privateMethod ({ cls := "MeadowMilk$Reader", name := "sum", desc := "()LMeadowMilk$Term;" } : Jvm.MethodName)) ∈ lw_tbl := lw_at lw_m3 182 rfl
theorem q723 : (Jvm.Cond.instanceMethod ({ cls := "MeadowMilk$Reader", name := "sum", desc := "()LMeadowMilk$Term;" } : Jvm.MethodName)) ∈ lw_all := lw_g (lw_at lw_m3 183 rfl) rfl
theorem q724 : (Jvm.Cond.code ({ cls := "MeadowMilk$Reader", name := "sum", desc := "()LMeadowMilk$Term;" } : Jvm.MethodName) prog_16_method_9_code (3 : Nat) (Option.some (Jvm.ClassFile.FieldType.object "MeadowMilk$Term"))) ∈ lw_all := lw_g (lw_at lw_m3 184 rfl) rfl
theorem q725 : (Jvm.Cond.methodLink "MeadowMilk$Reader" (73 : Nat) ({ cls := "MeadowMilk$Reader", name := "product", desc := "()LMeadowMilk$Term;" } : Jvm.MethodName)) ∈ lw_all := lw_g (lw_at lw_m3 185 rfl) rfl
theorem q726 : (Jvm.Cond.privateMethod ({ cls := "MeadowMilk$Reader", name := "product", desc := "()LMeadowMilk$Term;" } : Jvm.MethodName)) ∈ lw_tbl := lw_at lw_m3 186 rfl
theorem q727 : (Jvm.Cond.instanceMethod ({ cls := "MeadowMilk$Reader", name := "product", desc := "()LMeadowMilk$Term;" } : Jvm.MethodName)) ∈ lw_all := lw_g (lw_at lw_m3 187 rfl) rfl
theorem q728 : (Jvm.Cond.code ({ cls := "MeadowMilk$Reader", name := "product", desc := "()LMeadowMilk$Term;" } : Jvm.MethodName) prog_16_method_10_code (3 : Nat) (Option.some (Jvm.ClassFile.FieldType.object "MeadowMilk$Term"))) ∈ lw_all := lw_g (lw_at lw_m3 188 rfl) rfl
theorem q729 : (Jvm.Cond.methodLink "MeadowMilk$Reader" (78 : Nat) ({ cls := "MeadowMilk$Reader", name := "single", desc := "()LMeadowMilk$Term;" } : Jvm.MethodName)) ∈ lw_all := lw_g (lw_at lw_m3 189 rfl) rfl
theorem q730 : (Jvm.Cond.privateMethod ({ cls := "MeadowMilk$Reader", name := "single", desc := "()LMeadowMilk$Term;" } : Jvm.MethodName)) ∈ lw_tbl := lw_at lw_m3 190 rfl
theorem q731 : (Jvm.Cond.instanceMethod ({ cls := "MeadowMilk$Reader", name := "single", desc := "()LMeadowMilk$Term;" } : Jvm.MethodName)) ∈ lw_all := lw_g (lw_at lw_m3 191 rfl) rfl
theorem q732 : (Jvm.Cond.code ({ cls := "MeadowMilk$Reader", name := "single", desc := "()LMeadowMilk$Term;" } : Jvm.MethodName) prog_16_method_12_code (3 : Nat) (Option.some (Jvm.ClassFile.FieldType.object "MeadowMilk$Term"))) ∈ lw_all := lw_g (lw_at lw_m3 192 rfl) rfl
theorem q733 : (Jvm.Cond.methodLink "MeadowMilk$Reader" (54 : Nat) ({ cls := "MeadowMilk$Reader", name := "isOne", desc := "(Ljava/lang/String;)Z" } : Jvm.MethodName)) ∈ lw_all := lw_g (lw_at lw_m3 193 rfl) rfl
theorem q734 : (Jvm.Cond.privateMethod ({ cls := "MeadowMilk$Reader", name := "isOne", desc := "(Ljava/lang/String;)Z" } : Jvm.MethodName)) ∈ lw_tbl := lw_at lw_m3 194 rfl
theorem q735 : (Jvm.Cond.instanceMethod ({ cls := "MeadowMilk$Reader", name := "isOne", desc := "(Ljava/lang/String;)Z" } : Jvm.MethodName)) ∈ lw_all := lw_g (lw_at lw_m3 195 rfl) rfl
theorem q736 : (Jvm.Cond.code ({ cls := "MeadowMilk$Reader", name := "isOne", desc := "(Ljava/lang/String;)Z" } : Jvm.MethodName) prog_16_method_5_code (2 : Nat) (Option.some Jvm.ClassFile.FieldType.boolean)) ∈ lw_all := lw_g (lw_at lw_m3 196 rfl) rfl
theorem q737 : (Jvm.Cond.methodLink "MeadowMilk$Reader" (39 : Nat) ({ cls := "MeadowMilk$Reader", name := "look", desc := "()I" } : Jvm.MethodName)) ∈ lw_all := lw_g (lw_at lw_m3 197 rfl) rfl
theorem q738 : (Jvm.Cond.privateMethod ({ cls := "MeadowMilk$Reader", name := "look", desc := "()I" } : Jvm.MethodName)) ∈ lw_tbl := lw_at lw_m3 198 rfl
theorem q739 : (Jvm.Cond.instanceMethod ({ cls := "MeadowMilk$Reader", name := "look", desc := "()I" } : Jvm.MethodName)) ∈ lw_all := lw_g (lw_at lw_m3 199 rfl) rfl
theorem q740 : (Jvm.Cond.code ({ cls := "MeadowMilk$Reader", name := "look", desc := "()I" } : Jvm.MethodName) prog_16_method_3_code (1 : Nat) (Option.some Jvm.ClassFile.FieldType.int)) ∈ lw_all := lw_g (lw_at lw_m3 200 rfl) rfl
theorem q741 : (Jvm.Cond.methodLink "MeadowMilk$Reader" (43 : Nat) ({ cls := "java/lang/String", name := "indexOf", desc := "(I)I" } : Jvm.MethodName)) ∈ lw_all := lw_g (lw_at lw_m3 201 rfl) rfl
theorem q823 : (Jvm.Cond.classLink "MeadowMilk$Reader" (86 : Nat) "MeadowMilk$Named") ∈ lw_all := lw_g (lw_at lw_m4 43 rfl) rfl
theorem q825 : (Jvm.Cond.methodLink "MeadowMilk$Reader" (88 : Nat) ({ cls := "MeadowMilk$Named", name := "<init>", desc := "(I)V" } : Jvm.MethodName)) ∈ lw_all := lw_g (lw_at lw_m4 45 rfl) rfl
theorem q836 : (Jvm.Cond.stringRef "MeadowMilk$Reader" (89 : Nat) "!") ∈ lw_tbl := lw_at lw_m4 56 rfl
theorem q837 : (Jvm.Cond.methodLink "MeadowMilk$Reader" (91 : Nat) ({ cls := "MeadowMilk$Reader", name := "opens", desc := "()V" } : Jvm.MethodName)) ∈ lw_all := lw_g (lw_at lw_m4 57 rfl) rfl
theorem q838 : (Jvm.Cond.privateMethod ({ cls := "MeadowMilk$Reader", name := "opens", desc := "()V" } : Jvm.MethodName)) ∈ lw_tbl := lw_at lw_m4 58 rfl
theorem q839 : (Jvm.Cond.instanceMethod ({ cls := "MeadowMilk$Reader", name := "opens", desc := "()V" } : Jvm.MethodName)) ∈ lw_all := lw_g (lw_at lw_m4 59 rfl) rfl
theorem q840 : (Jvm.Cond.code ({ cls := "MeadowMilk$Reader", name := "opens", desc := "()V" } : Jvm.MethodName) prog_16_method_11_code (1 : Nat) (Option.none : Option Jvm.ClassFile.FieldType)) ∈ lw_all := lw_g (lw_at lw_m4 60 rfl) rfl
theorem q841 : (Jvm.Cond.methodLink "MeadowMilk$Reader" (30 : Nat) ({ cls := "MeadowMilk$Reader", name := "fault", desc := "(Z)V" } : Jvm.MethodName)) ∈ lw_all := lw_g (lw_at lw_m4 61 rfl) rfl
theorem q842 : (Jvm.Cond.privateMethod ({ cls := "MeadowMilk$Reader", name := "fault", desc := "(Z)V" } : Jvm.MethodName)) ∈ lw_tbl := lw_at lw_m4 62 rfl
theorem q843 : (Jvm.Cond.instanceMethod ({ cls := "MeadowMilk$Reader", name := "fault", desc := "(Z)V" } : Jvm.MethodName)) ∈ lw_all := lw_g (lw_at lw_m4 63 rfl) rfl
theorem q844 : (Jvm.Cond.code ({ cls := "MeadowMilk$Reader", name := "fault", desc := "(Z)V" } : Jvm.MethodName) prog_16_method_4_code (2 : Nat) (Option.none : Option Jvm.ClassFile.FieldType)) ∈ lw_all := lw_g (lw_at lw_m4 64 rfl) rfl
theorem q845 : (Jvm.Cond.classLink "MeadowMilk$Reader" (34 : Nat) "MeadowMilk$Fault") ∈ lw_all := lw_g (lw_at lw_m4 65 rfl) rfl
theorem q854 : (Jvm.Cond.methodLink "MeadowMilk$Reader" (36 : Nat) ({ cls := "MeadowMilk$Fault", name := "<init>", desc := "(I)V" } : Jvm.MethodName)) ∈ lw_all := lw_g (lw_at lw_m4 74 rfl) rfl
theorem q864 : (Jvm.Cond.classLink "MeadowMilk$Reader" (94 : Nat) "MeadowMilk$Turned") ∈ lw_all := lw_g (lw_at lw_m4 84 rfl) rfl
theorem q866 : (Jvm.Cond.methodLink "MeadowMilk$Reader" (96 : Nat) ({ cls := "MeadowMilk$Turned", name := "<init>", desc := "(LMeadowMilk$Term;)V" } : Jvm.MethodName)) ∈ lw_all := lw_g (lw_at lw_m4 86 rfl) rfl
theorem q874 : (Jvm.Cond.stringRef "MeadowMilk$Reader" (99 : Nat) "(") ∈ lw_tbl := lw_at lw_m4 94 rfl
theorem q875 : (Jvm.Cond.methodLinkNest "MeadowMilk$Reader" (101 : Nat) ({ cls := "MeadowMilk", name := "in", desc := "(III)Z" } : Jvm.MethodName) "MeadowMilk") ∈ lw_tbl := lw_at lw_m4 95 rfl
theorem q876 : (Jvm.Cond.classLink "MeadowMilk$Reader" (105 : Nat) "MeadowMilk$Figure") ∈ lw_all := lw_g (lw_at lw_m4 96 rfl) rfl
theorem q878 : (Jvm.Cond.methodLink "MeadowMilk$Reader" (107 : Nat) ({ cls := "MeadowMilk$Figure", name := "<init>", desc := "(I)V" } : Jvm.MethodName)) ∈ lw_all := lw_g (lw_at lw_m4 98 rfl) rfl
theorem q886 : (Jvm.Cond.stringRef "MeadowMilk$Reader" (81 : Nat) "*/%") ∈ lw_tbl := lw_at lw_m4 106 rfl
theorem q887 : (Jvm.Cond.classLink "MeadowMilk$Reader" (58 : Nat) "MeadowMilk$Two") ∈ lw_all := lw_g (lw_at lw_m4 107 rfl) rfl
theorem q889 : (Jvm.Cond.methodLink "MeadowMilk$Reader" (60 : Nat) ({ cls := "MeadowMilk$Two", name := "<init>", desc := "(ILMeadowMilk$Term;LMeadowMilk$Term;)V" } : Jvm.MethodName)) ∈ lw_all := lw_g (lw_at lw_m4 109 rfl) rfl
theorem q903 : (Jvm.Cond.stringRef "MeadowMilk$Reader" (76 : Nat) "+-") ∈ lw_tbl := lw_at lw_m4 123 rfl
theorem q904 : (Jvm.Cond.stringRef "MeadowMilk$Reader" (71 : Nat) "<=>") ∈ lw_tbl := lw_at lw_m4 124 rfl
theorem q905 : (Jvm.Cond.stringRef "MeadowMilk$Reader" (66 : Nat) "&") ∈ lw_tbl := lw_at lw_m4 125 rfl
theorem q906 : (Jvm.Cond.stringRef "MeadowMilk$Reader" (52 : Nat) "|") ∈ lw_tbl := lw_at lw_m4 126 rfl
theorem in_X16 : ∀ w ∈ wsX160, w ∈ lw_all := lw_in wsX160 [694, 696, 698, 700, 702] (by decide +kernel) (by decide +kernel)
