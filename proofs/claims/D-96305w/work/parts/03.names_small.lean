theorem q79 : (Jvm.Cond.initialized "HamsterWeekendsLaw") ∈ lw_all := lw_g (lw_at lw_m1 0 rfl) rfl
set_option maxRecDepth 100000
theorem q115 : (Jvm.Cond.classLink "HamsterWeekendsLaw" (7 : Nat) "HamsterWeekends") ∈ lw_all := lw_g (lw_at lw_m1 36 rfl) rfl
theorem q117 : (Jvm.Cond.methodLink "HamsterWeekendsLaw" (9 : Nat) ({ cls := "HamsterWeekends", name := "<init>", desc := "()V" } : Jvm.MethodName)) ∈ lw_all := lw_g (lw_at lw_m1 38 rfl) rfl
theorem q287 : (Jvm.Cond.methodLink "HamsterWeekendsLaw" (13 : Nat) ({ cls := "HamsterWeekends", name := "row", desc := "(III)I" } : Jvm.MethodName)) ∈ lw_all := lw_g (lw_at lw_m1 208 rfl) rfl
theorem q470 : (Jvm.Cond.methodLink "HamsterWeekendsLaw" (20 : Nat) ({ cls := "HamsterWeekends", name := "set", desc := "(IIJ)I" } : Jvm.MethodName)) ∈ lw_all := lw_g (lw_at lw_m2 151 rfl) rfl
theorem q511 : (Jvm.Cond.methodLink "HamsterWeekendsLaw" (25 : Nat) ({ cls := "HamsterWeekends", name := "copy", desc := "(IIIII)I" } : Jvm.MethodName)) ∈ lw_all := lw_g (lw_at lw_m2 192 rfl) rfl
theorem q554 : (Jvm.Cond.methodLink "HamsterWeekendsLaw" (30 : Nat) ({ cls := "HamsterWeekends", name := "element", desc := "(II)J" } : Jvm.MethodName)) ∈ lw_all := lw_g (lw_at lw_m2 235 rfl) rfl
theorem q573 : (Jvm.Cond.methodLink "HamsterWeekendsLaw" (35 : Nat) ({ cls := "HamsterWeekends", name := "show", desc := "(II)I" } : Jvm.MethodName)) ∈ lw_all := lw_g (lw_at lw_m3 14 rfl) rfl
theorem q586 : (Jvm.Cond.methodLink "HamsterWeekendsLaw" (40 : Nat) ({ cls := "HamsterWeekends", name := "holds", desc := "(I)I" } : Jvm.MethodName)) ∈ lw_all := lw_g (lw_at lw_m3 27 rfl) rfl
theorem q592 : (Jvm.Cond.methodLink "HamsterWeekendsLaw" (45 : Nat) ({ cls := "HamsterWeekends", name := "says", desc := "(II)I" } : Jvm.MethodName)) ∈ lw_all := lw_g (lw_at lw_m3 33 rfl) rfl
theorem q644 : (Jvm.Cond.methodLink "HamsterWeekendsLaw" (49 : Nat) ({ cls := "HamsterWeekends", name := "home", desc := "(II)I" } : Jvm.MethodName)) ∈ lw_all := lw_g (lw_at lw_m3 85 rfl) rfl
theorem q732 : (Jvm.Cond.methodLink "HamsterWeekendsLaw" (53 : Nat) ({ cls := "HamsterWeekends", name := "homeOf", desc := "(II)I" } : Jvm.MethodName)) ∈ lw_all := lw_g (lw_at lw_m3 173 rfl) rfl
theorem q763 : (Jvm.Cond.methodLink "HamsterWeekendsLaw" (57 : Nat) ({ cls := "HamsterWeekends", name := "marks", desc := "(II)I" } : Jvm.MethodName)) ∈ lw_all := lw_g (lw_at lw_m3 204 rfl) rfl
theorem q767 : (Jvm.Cond.methodLink "HamsterWeekendsLaw" (61 : Nat) ({ cls := "HamsterWeekends", name := "allergic", desc := "(IZ)I" } : Jvm.MethodName)) ∈ lw_all := lw_g (lw_at lw_m3 208 rfl) rfl
theorem q771 : (Jvm.Cond.methodLink "HamsterWeekendsLaw" (66 : Nat) ({ cls := "HamsterWeekends", name := "ask", desc := "(II)I" } : Jvm.MethodName)) ∈ lw_all := lw_g (lw_at lw_m3 212 rfl) rfl
theorem q786 : (Jvm.Cond.methodLink "HamsterWeekendsLaw" (70 : Nat) ({ cls := "HamsterWeekends", name := "classOf", desc := "(I)I" } : Jvm.MethodName)) ∈ lw_all := lw_g (lw_at lw_m3 227 rfl) rfl
theorem q1044 : (Jvm.Cond.methodLink "HamsterWeekendsLaw" (74 : Nat) ({ cls := "HamsterWeekends", name := "fault", desc := "()I" } : Jvm.MethodName)) ∈ lw_all := lw_g (lw_at lw_m5 5 rfl) rfl
theorem q1048 : (Jvm.Cond.methodLink "HamsterWeekendsLaw" (79 : Nat) ({ cls := "HamsterWeekends", name := "norm", desc := "(I)I" } : Jvm.MethodName)) ∈ lw_all := lw_g (lw_at lw_m5 9 rfl) rfl
theorem q1053 : (Jvm.Cond.methodLink "HamsterWeekendsLaw" (83 : Nat) ({ cls := "HamsterWeekends", name := "judge", desc := "(II)I" } : Jvm.MethodName)) ∈ lw_all := lw_g (lw_at lw_m5 14 rfl) rfl
theorem q1068 : (Jvm.Cond.methodLink "HamsterWeekendsLaw" (87 : Nat) ({ cls := "HamsterWeekends", name := "behind", desc := "(III)I" } : Jvm.MethodName)) ∈ lw_all := lw_g (lw_at lw_m5 29 rfl) rfl
theorem q1089 : (Jvm.Cond.methodLink "HamsterWeekendsLaw" (123 : Nat) ({ cls := "HamsterWeekends", name := "leastFeed", desc := "(III)I" } : Jvm.MethodName)) ∈ lw_all := lw_g (lw_at lw_m5 50 rfl) rfl
theorem q1093 : (Jvm.Cond.methodLink "HamsterWeekendsLaw" (131 : Nat) ({ cls := "HamsterWeekends", name := "noticed", desc := "(III)I" } : Jvm.MethodName)) ∈ lw_all := lw_g (lw_at lw_m5 54 rfl) rfl
theorem q1097 : (Jvm.Cond.methodLink "HamsterWeekendsLaw" (135 : Nat) ({ cls := "HamsterWeekends", name := "swap", desc := "(II)I" } : Jvm.MethodName)) ∈ lw_all := lw_g (lw_at lw_m5 58 rfl) rfl
theorem q1105 : (Jvm.Cond.methodLink "HamsterWeekendsLaw" (91 : Nat) ({ cls := "HamsterWeekends", name := "whose", desc := "(I)I" } : Jvm.MethodName)) ∈ lw_all := lw_g (lw_at lw_m5 66 rfl) rfl
theorem q1122 : (Jvm.Cond.methodLink "HamsterWeekendsLaw" (95 : Nat) ({ cls := "HamsterWeekends", name := "order", desc := "(I)I" } : Jvm.MethodName)) ∈ lw_all := lw_g (lw_at lw_m5 83 rfl) rfl
theorem q1135 : (Jvm.Cond.methodLink "HamsterWeekendsLaw" (99 : Nat) ({ cls := "HamsterWeekends", name := "least", desc := "()I" } : Jvm.MethodName)) ∈ lw_all := lw_g (lw_at lw_m5 96 rfl) rfl
theorem q1139 : (Jvm.Cond.methodLink "HamsterWeekendsLaw" (103 : Nat) ({ cls := "HamsterWeekends", name := "was", desc := "(II)I" } : Jvm.MethodName)) ∈ lw_all := lw_g (lw_at lw_m5 100 rfl) rfl
theorem q1145 : (Jvm.Cond.methodLink "HamsterWeekendsLaw" (107 : Nat) ({ cls := "HamsterWeekends", name := "fit", desc := "(I)I" } : Jvm.MethodName)) ∈ lw_all := lw_g (lw_at lw_m5 106 rfl) rfl
theorem q1149 : (Jvm.Cond.methodLink "HamsterWeekendsLaw" (111 : Nat) ({ cls := "HamsterWeekends", name := "chance", desc := "(I)I" } : Jvm.MethodName)) ∈ lw_all := lw_g (lw_at lw_m5 110 rfl) rfl
theorem q1158 : (Jvm.Cond.methodLink "HamsterWeekendsLaw" (115 : Nat) ({ cls := "HamsterWeekends", name := "last", desc := "(III)I" } : Jvm.MethodName)) ∈ lw_all := lw_g (lw_at lw_m5 119 rfl) rfl
theorem q1162 : (Jvm.Cond.methodLink "HamsterWeekendsLaw" (119 : Nat) ({ cls := "HamsterWeekends", name := "carried", desc := "(II)I" } : Jvm.MethodName)) ∈ lw_all := lw_g (lw_at lw_m5 123 rfl) rfl
theorem q1171 : (Jvm.Cond.methodLink "HamsterWeekendsLaw" (127 : Nat) ({ cls := "HamsterWeekends", name := "lasts", desc := "()I" } : Jvm.MethodName)) ∈ lw_all := lw_g (lw_at lw_m5 132 rfl) rfl
theorem q1175 : (Jvm.Cond.methodLink "HamsterWeekendsLaw" (139 : Nat) ({ cls := "HamsterWeekends", name := "week", desc := "(I)I" } : Jvm.MethodName)) ∈ lw_all := lw_g (lw_at lw_m5 136 rfl) rfl
theorem q1180 : (Jvm.Cond.methodLink "HamsterWeekendsLaw" (143 : Nat) ({ cls := "HamsterWeekends", name := "weeks", desc := "(II)I" } : Jvm.MethodName)) ∈ lw_all := lw_g (lw_at lw_m5 141 rfl) rfl
theorem q1185 : (Jvm.Cond.methodLink "HamsterWeekendsLaw" (147 : Nat) ({ cls := "HamsterWeekends", name := "term", desc := "(I)I" } : Jvm.MethodName)) ∈ lw_all := lw_g (lw_at lw_m5 146 rfl) rfl
theorem q1204 : (Jvm.Cond.methodLink "HamsterWeekendsLaw" (151 : Nat) ({ cls := "HamsterWeekends", name := "anew", desc := "()I" } : Jvm.MethodName)) ∈ lw_all := lw_g (lw_at lw_m5 165 rfl) rfl
theorem q1215 : (Jvm.Cond.methodLink "HamsterWeekendsLaw" (155 : Nat) ({ cls := "HamsterWeekends", name := "seed", desc := "(I)I" } : Jvm.MethodName)) ∈ lw_all := lw_g (lw_at lw_m5 176 rfl) rfl
theorem q1219 : (Jvm.Cond.methodLink "HamsterWeekendsLaw" (159 : Nat) ({ cls := "HamsterWeekends", name := "act", desc := "(III)I" } : Jvm.MethodName)) ∈ lw_all := lw_g (lw_at lw_m5 180 rfl) rfl
theorem q1297 : (Jvm.Cond.methodLink "HamsterWeekendsLaw" (163 : Nat) ({ cls := "HamsterWeekends", name := "trace", desc := "(I)I" } : Jvm.MethodName)) ∈ lw_all := lw_g (lw_at lw_m6 18 rfl) rfl
theorem q1301 : (Jvm.Cond.methodLink "HamsterWeekendsLaw" (167 : Nat) ({ cls := "HamsterWeekends", name := "image", desc := "()I" } : Jvm.MethodName)) ∈ lw_all := lw_g (lw_at lw_m6 22 rfl) rfl
theorem q1305 : (Jvm.Cond.methodLink "HamsterWeekendsLaw" (171 : Nat) ({ cls := "HamsterWeekends", name := "restore", desc := "()I" } : Jvm.MethodName)) ∈ lw_all := lw_g (lw_at lw_m6 26 rfl) rfl
theorem q1313 : (Jvm.Cond.methodLink "HamsterWeekendsLaw" (175 : Nat) ({ cls := "HamsterWeekends", name := "status", desc := "(I)I" } : Jvm.MethodName)) ∈ lw_all := lw_g (lw_at lw_m6 34 rfl) rfl
theorem q1321 : (Jvm.Cond.classLink "HamsterWeekendsLaw" (10 : Nat) "HamsterWeekendsModel") ∈ lw_all := lw_g (lw_at lw_m6 42 rfl) rfl
theorem q1323 : (Jvm.Cond.methodLink "HamsterWeekendsLaw" (12 : Nat) ({ cls := "HamsterWeekendsModel", name := "<init>", desc := "()V" } : Jvm.MethodName)) ∈ lw_all := lw_g (lw_at lw_m6 44 rfl) rfl
theorem q1475 : (Jvm.Cond.methodLink "HamsterWeekendsLaw" (17 : Nat) ({ cls := "HamsterWeekendsModel", name := "row", desc := "(III)I" } : Jvm.MethodName)) ∈ lw_all := lw_g (lw_at lw_m6 196 rfl) rfl
theorem q1487 : (Jvm.Cond.methodLink "HamsterWeekendsLaw" (24 : Nat) ({ cls := "HamsterWeekendsModel", name := "set", desc := "(IIJ)I" } : Jvm.MethodName)) ∈ lw_all := lw_g (lw_at lw_m6 208 rfl) rfl
theorem q1491 : (Jvm.Cond.methodLink "HamsterWeekendsLaw" (29 : Nat) ({ cls := "HamsterWeekendsModel", name := "copy", desc := "(IIIII)I" } : Jvm.MethodName)) ∈ lw_all := lw_g (lw_at lw_m6 212 rfl) rfl
theorem q1495 : (Jvm.Cond.methodLink "HamsterWeekendsLaw" (34 : Nat) ({ cls := "HamsterWeekendsModel", name := "element", desc := "(II)J" } : Jvm.MethodName)) ∈ lw_all := lw_g (lw_at lw_m6 216 rfl) rfl
theorem q1499 : (Jvm.Cond.methodLink "HamsterWeekendsLaw" (39 : Nat) ({ cls := "HamsterWeekendsModel", name := "show", desc := "(II)I" } : Jvm.MethodName)) ∈ lw_all := lw_g (lw_at lw_m6 220 rfl) rfl
theorem q1507 : (Jvm.Cond.methodLink "HamsterWeekendsLaw" (44 : Nat) ({ cls := "HamsterWeekendsModel", name := "holds", desc := "(I)I" } : Jvm.MethodName)) ∈ lw_all := lw_g (lw_at lw_m6 228 rfl) rfl
theorem q1511 : (Jvm.Cond.methodLink "HamsterWeekendsLaw" (48 : Nat) ({ cls := "HamsterWeekendsModel", name := "says", desc := "(II)I" } : Jvm.MethodName)) ∈ lw_all := lw_g (lw_at lw_m6 232 rfl) rfl
theorem q1515 : (Jvm.Cond.methodLink "HamsterWeekendsLaw" (52 : Nat) ({ cls := "HamsterWeekendsModel", name := "home", desc := "(II)I" } : Jvm.MethodName)) ∈ lw_all := lw_g (lw_at lw_m6 236 rfl) rfl
theorem q1523 : (Jvm.Cond.methodLink "HamsterWeekendsLaw" (56 : Nat) ({ cls := "HamsterWeekendsModel", name := "homeOf", desc := "(II)I" } : Jvm.MethodName)) ∈ lw_all := lw_g (lw_at lw_m7 4 rfl) rfl
theorem q1527 : (Jvm.Cond.methodLink "HamsterWeekendsLaw" (60 : Nat) ({ cls := "HamsterWeekendsModel", name := "marks", desc := "(II)I" } : Jvm.MethodName)) ∈ lw_all := lw_g (lw_at lw_m7 8 rfl) rfl
theorem q1531 : (Jvm.Cond.methodLink "HamsterWeekendsLaw" (65 : Nat) ({ cls := "HamsterWeekendsModel", name := "allergic", desc := "(IZ)I" } : Jvm.MethodName)) ∈ lw_all := lw_g (lw_at lw_m7 12 rfl) rfl
theorem q1535 : (Jvm.Cond.methodLink "HamsterWeekendsLaw" (69 : Nat) ({ cls := "HamsterWeekendsModel", name := "ask", desc := "(II)I" } : Jvm.MethodName)) ∈ lw_all := lw_g (lw_at lw_m7 16 rfl) rfl
theorem q1551 : (Jvm.Cond.methodLink "HamsterWeekendsLaw" (73 : Nat) ({ cls := "HamsterWeekendsModel", name := "classOf", desc := "(I)I" } : Jvm.MethodName)) ∈ lw_all := lw_g (lw_at lw_m7 32 rfl) rfl
theorem q1627 : (Jvm.Cond.methodLink "HamsterWeekendsLaw" (78 : Nat) ({ cls := "HamsterWeekendsModel", name := "fault", desc := "()I" } : Jvm.MethodName)) ∈ lw_all := lw_g (lw_at lw_m7 108 rfl) rfl
theorem q1631 : (Jvm.Cond.methodLink "HamsterWeekendsLaw" (82 : Nat) ({ cls := "HamsterWeekendsModel", name := "norm", desc := "(I)I" } : Jvm.MethodName)) ∈ lw_all := lw_g (lw_at lw_m7 112 rfl) rfl
theorem q1635 : (Jvm.Cond.methodLink "HamsterWeekendsLaw" (86 : Nat) ({ cls := "HamsterWeekendsModel", name := "judge", desc := "(II)I" } : Jvm.MethodName)) ∈ lw_all := lw_g (lw_at lw_m7 116 rfl) rfl
theorem q1659 : (Jvm.Cond.methodLink "HamsterWeekendsLaw" (90 : Nat) ({ cls := "HamsterWeekendsModel", name := "behind", desc := "(III)I" } : Jvm.MethodName)) ∈ lw_all := lw_g (lw_at lw_m7 140 rfl) rfl
theorem q1667 : (Jvm.Cond.methodLink "HamsterWeekendsLaw" (94 : Nat) ({ cls := "HamsterWeekendsModel", name := "whose", desc := "(I)I" } : Jvm.MethodName)) ∈ lw_all := lw_g (lw_at lw_m7 148 rfl) rfl
theorem q1679 : (Jvm.Cond.methodLink "HamsterWeekendsLaw" (98 : Nat) ({ cls := "HamsterWeekendsModel", name := "order", desc := "(I)I" } : Jvm.MethodName)) ∈ lw_all := lw_g (lw_at lw_m7 160 rfl) rfl
theorem q1699 : (Jvm.Cond.methodLink "HamsterWeekendsLaw" (102 : Nat) ({ cls := "HamsterWeekendsModel", name := "least", desc := "()I" } : Jvm.MethodName)) ∈ lw_all := lw_g (lw_at lw_m7 180 rfl) rfl
theorem q1703 : (Jvm.Cond.methodLink "HamsterWeekendsLaw" (106 : Nat) ({ cls := "HamsterWeekendsModel", name := "was", desc := "(II)I" } : Jvm.MethodName)) ∈ lw_all := lw_g (lw_at lw_m7 184 rfl) rfl
theorem q1711 : (Jvm.Cond.methodLink "HamsterWeekendsLaw" (110 : Nat) ({ cls := "HamsterWeekendsModel", name := "fit", desc := "(I)I" } : Jvm.MethodName)) ∈ lw_all := lw_g (lw_at lw_m7 192 rfl) rfl
theorem q1715 : (Jvm.Cond.methodLink "HamsterWeekendsLaw" (114 : Nat) ({ cls := "HamsterWeekendsModel", name := "chance", desc := "(I)I" } : Jvm.MethodName)) ∈ lw_all := lw_g (lw_at lw_m7 196 rfl) rfl
theorem q1727 : (Jvm.Cond.methodLink "HamsterWeekendsLaw" (118 : Nat) ({ cls := "HamsterWeekendsModel", name := "last", desc := "(III)I" } : Jvm.MethodName)) ∈ lw_all := lw_g (lw_at lw_m7 208 rfl) rfl
theorem q1731 : (Jvm.Cond.methodLink "HamsterWeekendsLaw" (122 : Nat) ({ cls := "HamsterWeekendsModel", name := "carried", desc := "(II)I" } : Jvm.MethodName)) ∈ lw_all := lw_g (lw_at lw_m7 212 rfl) rfl
theorem q1739 : (Jvm.Cond.methodLink "HamsterWeekendsLaw" (126 : Nat) ({ cls := "HamsterWeekendsModel", name := "leastFeed", desc := "(III)I" } : Jvm.MethodName)) ∈ lw_all := lw_g (lw_at lw_m7 220 rfl) rfl
theorem q1747 : (Jvm.Cond.methodLink "HamsterWeekendsLaw" (130 : Nat) ({ cls := "HamsterWeekendsModel", name := "lasts", desc := "()I" } : Jvm.MethodName)) ∈ lw_all := lw_g (lw_at lw_m7 228 rfl) rfl
theorem q1751 : (Jvm.Cond.methodLink "HamsterWeekendsLaw" (134 : Nat) ({ cls := "HamsterWeekendsModel", name := "noticed", desc := "(III)I" } : Jvm.MethodName)) ∈ lw_all := lw_g (lw_at lw_m7 232 rfl) rfl
theorem q1755 : (Jvm.Cond.methodLink "HamsterWeekendsLaw" (138 : Nat) ({ cls := "HamsterWeekendsModel", name := "swap", desc := "(II)I" } : Jvm.MethodName)) ∈ lw_all := lw_g (lw_at lw_m7 236 rfl) rfl
theorem q1763 : (Jvm.Cond.methodLink "HamsterWeekendsLaw" (142 : Nat) ({ cls := "HamsterWeekendsModel", name := "week", desc := "(I)I" } : Jvm.MethodName)) ∈ lw_all := lw_g (lw_at lw_m8 4 rfl) rfl
theorem q1767 : (Jvm.Cond.methodLink "HamsterWeekendsLaw" (146 : Nat) ({ cls := "HamsterWeekendsModel", name := "weeks", desc := "(II)I" } : Jvm.MethodName)) ∈ lw_all := lw_g (lw_at lw_m8 8 rfl) rfl
theorem q1771 : (Jvm.Cond.methodLink "HamsterWeekendsLaw" (150 : Nat) ({ cls := "HamsterWeekendsModel", name := "term", desc := "(I)I" } : Jvm.MethodName)) ∈ lw_all := lw_g (lw_at lw_m8 12 rfl) rfl
theorem q1780 : (Jvm.Cond.methodLink "HamsterWeekendsLaw" (154 : Nat) ({ cls := "HamsterWeekendsModel", name := "anew", desc := "()I" } : Jvm.MethodName)) ∈ lw_all := lw_g (lw_at lw_m8 21 rfl) rfl
theorem q1784 : (Jvm.Cond.methodLink "HamsterWeekendsLaw" (158 : Nat) ({ cls := "HamsterWeekendsModel", name := "seed", desc := "(I)I" } : Jvm.MethodName)) ∈ lw_all := lw_g (lw_at lw_m8 25 rfl) rfl
theorem q1788 : (Jvm.Cond.methodLink "HamsterWeekendsLaw" (162 : Nat) ({ cls := "HamsterWeekendsModel", name := "act", desc := "(III)I" } : Jvm.MethodName)) ∈ lw_all := lw_g (lw_at lw_m8 29 rfl) rfl
theorem q1808 : (Jvm.Cond.methodLink "HamsterWeekendsLaw" (166 : Nat) ({ cls := "HamsterWeekendsModel", name := "trace", desc := "(I)I" } : Jvm.MethodName)) ∈ lw_all := lw_g (lw_at lw_m8 49 rfl) rfl
theorem q1812 : (Jvm.Cond.methodLink "HamsterWeekendsLaw" (170 : Nat) ({ cls := "HamsterWeekendsModel", name := "image", desc := "()I" } : Jvm.MethodName)) ∈ lw_all := lw_g (lw_at lw_m8 53 rfl) rfl
theorem q1816 : (Jvm.Cond.methodLink "HamsterWeekendsLaw" (174 : Nat) ({ cls := "HamsterWeekendsModel", name := "restore", desc := "()I" } : Jvm.MethodName)) ∈ lw_all := lw_g (lw_at lw_m8 57 rfl) rfl
theorem q1820 : (Jvm.Cond.methodLink "HamsterWeekendsLaw" (178 : Nat) ({ cls := "HamsterWeekendsModel", name := "status", desc := "(I)I" } : Jvm.MethodName)) ∈ lw_all := lw_g (lw_at lw_m8 61 rfl) rfl
theorem q1824 : (Jvm.Cond.constantLong "HamsterWeekendsLaw" (18 : Nat) (4294967295 : Int64)) ∈ lw_all := lw_g (lw_at lw_m8 65 rfl) rfl

theorem q100 : (Jvm.Cond.initialized "java/lang/System") ∈ lw_all := lw_g (lw_at lw_m1 21 rfl) rfl
set_option maxRecDepth 100000
theorem q552 : (Jvm.Cond.static ({ cls := "java/lang/System", name := "arraycopy", desc := "(Ljava/lang/Object;ILjava/lang/Object;II)V" } : Jvm.MethodName)) ∈ lw_all := lw_g (lw_at lw_m2 233 rfl) rfl
theorem q553 : (Jvm.Cond.native ({ cls := "java/lang/System", name := "arraycopy", desc := "(Ljava/lang/Object;ILjava/lang/Object;II)V" } : Jvm.MethodName)) ∈ lw_all := lw_g (lw_at lw_m2 234 rfl) rfl

theorem q124 : (Jvm.Cond.arrayOver (Jvm.ClassFile.FieldType.object "HamsterWeekends$Shelf")) ∈ lw_tbl := lw_at lw_m1 45 rfl
set_option maxRecDepth 100000
theorem q140 : (Jvm.Cond.arrayClass Jvm.ClassFile.FieldType.int) ∈ lw_all := lw_g (lw_at lw_m1 61 rfl) rfl
theorem q179 : (Jvm.Cond.arrayOver (Jvm.ClassFile.FieldType.object "HamsterWeekends$Home")) ∈ lw_tbl := lw_at lw_m1 100 rfl
theorem q226 : (Jvm.Cond.arrayClass Jvm.ClassFile.FieldType.boolean) ∈ lw_all := lw_g (lw_at lw_m1 147 rfl) rfl
theorem q227 : (Jvm.Cond.arrayOver (Jvm.ClassFile.FieldType.object "HamsterWeekends$Pet")) ∈ lw_tbl := lw_at lw_m1 148 rfl
theorem q369 : (Jvm.Cond.arrayClass Jvm.ClassFile.FieldType.byte) ∈ lw_all := lw_g (lw_at lw_m2 50 rfl) rfl
theorem q444 : (Jvm.Cond.arrayClass Jvm.ClassFile.FieldType.short) ∈ lw_all := lw_g (lw_at lw_m2 125 rfl) rfl
theorem q465 : (Jvm.Cond.arrayClass Jvm.ClassFile.FieldType.long) ∈ lw_all := lw_g (lw_at lw_m2 146 rfl) rfl

/-! java/lang/Throwable -/
set_option maxRecDepth 100000
def RJ0 : String := "java/lang/Throwable"
def TJ0 : u_T := fun k => match k with
  | 0 => ("java/lang/Throwable", "cause", "Ljava/lang/Throwable;", false)
  | 1 => ("java/lang/Throwable", "stackTrace", "[Ljava/lang/StackTraceElement;", false)
  | 2 => ("java/lang/Throwable", "suppressedExceptions", "Ljava/util/List;", false)
  | 3 => ("java/lang/Throwable", "detailMessage", "Ljava/lang/String;", false)
  | _ => ("java/lang/Throwable", "backtrace", "Ljava/lang/Object;", false)
def tyJ0 : Nat → FieldType := fun k => match k with
  | 0 => .object "java/lang/Throwable"
  | 1 => .array (.object "java/lang/StackTraceElement")
  | 2 => .object "java/util/List"
  | 3 => .object "java/lang/String"
  | _ => .object "java/lang/Object"
abbrev wsJ00 : List Cond := u_ws RJ0 TJ0 5
theorem nmJ0 : ∀ a, a < 5 → ∀ b, b < 5 → a ≠ b → (TJ0 a).2.1 ≠ (TJ0 b).2.1 := by decide +kernel
theorem tyJ0_ok : ∀ k, k < 5 → parseFieldDescriptor (TJ0 k).2.2.1 = some (tyJ0 k) := by decide +kernel
abbrev cJ0_init : ByteArray := prog_34_method_2_code
def yJ0_init : MethodName := ⟨RJ0, "<init>", "(Ljava/lang/String;)V"⟩
def dkwJ0_init_1 : List UInt8 := [182, 0, 27, 87, 42, 43, 181, 0, 31, 177]
abbrev dktJ0_init_1 : List UInt8 := dkwJ0_init_1 ++ []
def dkwJ0_init_0 : List UInt8 := [42, 183, 0, 1, 42, 42, 181, 0, 7, 42, 178, 0, 13, 181, 0, 17, 42, 178, 0, 20, 181, 0, 24, 42]
abbrev dktJ0_init_0 : List UInt8 := dkwJ0_init_0 ++ dktJ0_init_1
theorem dksJ0_init_0 : cJ0_init.data.toList.drop 0 = dktJ0_init_0 := by decide +kernel
theorem dksJ0_init_1 : cJ0_init.data.toList.drop 24 = dktJ0_init_1 := dk_seg dksJ0_init_0 24 rfl rfl
theorem dJ0_init_0 : decode cJ0_init 0 = .ok (.aload_n 0, 1) := dk_42 (dk_at dksJ0_init_0 0 rfl rfl)
theorem dJ0_init_1 : decode cJ0_init 1 = .ok (.invokespecial 1, 3) := dk_183 0 1 (dk_at dksJ0_init_0 1 rfl rfl)
theorem dJ0_init_4 : decode cJ0_init 4 = .ok (.aload_n 0, 1) := dk_42 (dk_at dksJ0_init_0 4 rfl rfl)
theorem dJ0_init_5 : decode cJ0_init 5 = .ok (.aload_n 0, 1) := dk_42 (dk_at dksJ0_init_0 5 rfl rfl)
theorem dJ0_init_6 : decode cJ0_init 6 = .ok (.putfield 7, 3) := dk_181 0 7 (dk_at dksJ0_init_0 6 rfl rfl)
theorem dJ0_init_9 : decode cJ0_init 9 = .ok (.aload_n 0, 1) := dk_42 (dk_at dksJ0_init_0 9 rfl rfl)
theorem dJ0_init_10 : decode cJ0_init 10 = .ok (.getstatic 13, 3) := dk_178 0 13 (dk_at dksJ0_init_0 10 rfl rfl)
theorem dJ0_init_13 : decode cJ0_init 13 = .ok (.putfield 17, 3) := dk_181 0 17 (dk_at dksJ0_init_0 13 rfl rfl)
theorem dJ0_init_16 : decode cJ0_init 16 = .ok (.aload_n 0, 1) := dk_42 (dk_at dksJ0_init_0 16 rfl rfl)
theorem dJ0_init_17 : decode cJ0_init 17 = .ok (.getstatic 20, 3) := dk_178 0 20 (dk_at dksJ0_init_0 17 rfl rfl)
theorem dJ0_init_20 : decode cJ0_init 20 = .ok (.putfield 24, 3) := dk_181 0 24 (dk_at dksJ0_init_0 20 rfl rfl)
theorem dJ0_init_23 : decode cJ0_init 23 = .ok (.aload_n 0, 1) := dk_42 (dk_at dksJ0_init_0 23 rfl rfl)
theorem dJ0_init_24 : decode cJ0_init 24 = .ok (.invokevirtual 27, 3) := dk_182 0 27 (dk_at dksJ0_init_1 0 rfl rfl)
theorem dJ0_init_27 : decode cJ0_init 27 = .ok (.pop, 1) := dk_87 (dk_at dksJ0_init_1 3 rfl rfl)
theorem dJ0_init_28 : decode cJ0_init 28 = .ok (.aload_n 0, 1) := dk_42 (dk_at dksJ0_init_1 4 rfl rfl)
theorem dJ0_init_29 : decode cJ0_init 29 = .ok (.aload_n 1, 1) := dk_43 (dk_at dksJ0_init_1 5 rfl rfl)
theorem dJ0_init_30 : decode cJ0_init 30 = .ok (.putfield 31, 3) := dk_181 0 31 (dk_at dksJ0_init_1 6 rfl rfl)
theorem dJ0_init_33 : decode cJ0_init 33 = .ok (.return_, 1) := dk_177 (dk_at dksJ0_init_1 9 rfl rfl)
abbrev cJ0_init_2 : ByteArray := prog_34_method_1_code
def yJ0_init_2 : MethodName := ⟨RJ0, "<init>", "()V"⟩
def dkwJ0_init_2_1 : List UInt8 := [182, 0, 27, 87, 177]
abbrev dktJ0_init_2_1 : List UInt8 := dkwJ0_init_2_1 ++ []
def dkwJ0_init_2_0 : List UInt8 := [42, 183, 0, 1, 42, 42, 181, 0, 7, 42, 178, 0, 13, 181, 0, 17, 42, 178, 0, 20, 181, 0, 24, 42]
abbrev dktJ0_init_2_0 : List UInt8 := dkwJ0_init_2_0 ++ dktJ0_init_2_1
theorem dksJ0_init_2_0 : cJ0_init_2.data.toList.drop 0 = dktJ0_init_2_0 := by decide +kernel
theorem dksJ0_init_2_1 : cJ0_init_2.data.toList.drop 24 = dktJ0_init_2_1 := dk_seg dksJ0_init_2_0 24 rfl rfl
theorem dJ0_init_2_0 : decode cJ0_init_2 0 = .ok (.aload_n 0, 1) := dk_42 (dk_at dksJ0_init_2_0 0 rfl rfl)
theorem dJ0_init_2_1 : decode cJ0_init_2 1 = .ok (.invokespecial 1, 3) := dk_183 0 1 (dk_at dksJ0_init_2_0 1 rfl rfl)
theorem dJ0_init_2_4 : decode cJ0_init_2 4 = .ok (.aload_n 0, 1) := dk_42 (dk_at dksJ0_init_2_0 4 rfl rfl)
theorem dJ0_init_2_5 : decode cJ0_init_2 5 = .ok (.aload_n 0, 1) := dk_42 (dk_at dksJ0_init_2_0 5 rfl rfl)
theorem dJ0_init_2_6 : decode cJ0_init_2 6 = .ok (.putfield 7, 3) := dk_181 0 7 (dk_at dksJ0_init_2_0 6 rfl rfl)
theorem dJ0_init_2_9 : decode cJ0_init_2 9 = .ok (.aload_n 0, 1) := dk_42 (dk_at dksJ0_init_2_0 9 rfl rfl)
theorem dJ0_init_2_10 : decode cJ0_init_2 10 = .ok (.getstatic 13, 3) := dk_178 0 13 (dk_at dksJ0_init_2_0 10 rfl rfl)
theorem dJ0_init_2_13 : decode cJ0_init_2 13 = .ok (.putfield 17, 3) := dk_181 0 17 (dk_at dksJ0_init_2_0 13 rfl rfl)
theorem dJ0_init_2_16 : decode cJ0_init_2 16 = .ok (.aload_n 0, 1) := dk_42 (dk_at dksJ0_init_2_0 16 rfl rfl)
theorem dJ0_init_2_17 : decode cJ0_init_2 17 = .ok (.getstatic 20, 3) := dk_178 0 20 (dk_at dksJ0_init_2_0 17 rfl rfl)
theorem dJ0_init_2_20 : decode cJ0_init_2 20 = .ok (.putfield 24, 3) := dk_181 0 24 (dk_at dksJ0_init_2_0 20 rfl rfl)
theorem dJ0_init_2_23 : decode cJ0_init_2 23 = .ok (.aload_n 0, 1) := dk_42 (dk_at dksJ0_init_2_0 23 rfl rfl)
theorem dJ0_init_2_24 : decode cJ0_init_2 24 = .ok (.invokevirtual 27, 3) := dk_182 0 27 (dk_at dksJ0_init_2_1 0 rfl rfl)
theorem dJ0_init_2_27 : decode cJ0_init_2 27 = .ok (.pop, 1) := dk_87 (dk_at dksJ0_init_2_1 3 rfl rfl)
theorem dJ0_init_2_28 : decode cJ0_init_2 28 = .ok (.return_, 1) := dk_177 (dk_at dksJ0_init_2_1 4 rfl rfl)
abbrev cJ0_init_3 : ByteArray := prog_34_method_5_code
def yJ0_init_3 : MethodName := ⟨RJ0, "<init>", "(Ljava/lang/String;Ljava/lang/Throwable;ZZ)V"⟩
def dkwJ0_init_3_2 : List UInt8 := [44, 181, 0, 7, 29, 154, 0, 8, 42, 1, 181, 0, 24, 177]
abbrev dktJ0_init_3_2 : List UInt8 := dkwJ0_init_3_2 ++ []
def dkwJ0_init_3_1 : List UInt8 := [21, 4, 153, 0, 11, 42, 182, 0, 27, 87, 167, 0, 8, 42, 1, 181, 0, 17, 42, 43, 181, 0, 31, 42]
abbrev dktJ0_init_3_1 : List UInt8 := dkwJ0_init_3_1 ++ dktJ0_init_3_2
def dkwJ0_init_3_0 : List UInt8 := [42, 183, 0, 1, 42, 42, 181, 0, 7, 42, 178, 0, 13, 181, 0, 17, 42, 178, 0, 20, 181, 0, 24]
abbrev dktJ0_init_3_0 : List UInt8 := dkwJ0_init_3_0 ++ dktJ0_init_3_1
theorem dksJ0_init_3_0 : cJ0_init_3.data.toList.drop 0 = dktJ0_init_3_0 := by decide +kernel
theorem dksJ0_init_3_1 : cJ0_init_3.data.toList.drop 23 = dktJ0_init_3_1 := dk_seg dksJ0_init_3_0 23 rfl rfl
theorem dksJ0_init_3_2 : cJ0_init_3.data.toList.drop 47 = dktJ0_init_3_2 := dk_seg dksJ0_init_3_1 24 rfl rfl
theorem dJ0_init_3_0 : decode cJ0_init_3 0 = .ok (.aload_n 0, 1) := dk_42 (dk_at dksJ0_init_3_0 0 rfl rfl)
theorem dJ0_init_3_1 : decode cJ0_init_3 1 = .ok (.invokespecial 1, 3) := dk_183 0 1 (dk_at dksJ0_init_3_0 1 rfl rfl)
theorem dJ0_init_3_4 : decode cJ0_init_3 4 = .ok (.aload_n 0, 1) := dk_42 (dk_at dksJ0_init_3_0 4 rfl rfl)
theorem dJ0_init_3_5 : decode cJ0_init_3 5 = .ok (.aload_n 0, 1) := dk_42 (dk_at dksJ0_init_3_0 5 rfl rfl)
theorem dJ0_init_3_6 : decode cJ0_init_3 6 = .ok (.putfield 7, 3) := dk_181 0 7 (dk_at dksJ0_init_3_0 6 rfl rfl)
theorem dJ0_init_3_9 : decode cJ0_init_3 9 = .ok (.aload_n 0, 1) := dk_42 (dk_at dksJ0_init_3_0 9 rfl rfl)
theorem dJ0_init_3_10 : decode cJ0_init_3 10 = .ok (.getstatic 13, 3) := dk_178 0 13 (dk_at dksJ0_init_3_0 10 rfl rfl)
theorem dJ0_init_3_13 : decode cJ0_init_3 13 = .ok (.putfield 17, 3) := dk_181 0 17 (dk_at dksJ0_init_3_0 13 rfl rfl)
theorem dJ0_init_3_16 : decode cJ0_init_3 16 = .ok (.aload_n 0, 1) := dk_42 (dk_at dksJ0_init_3_0 16 rfl rfl)
theorem dJ0_init_3_17 : decode cJ0_init_3 17 = .ok (.getstatic 20, 3) := dk_178 0 20 (dk_at dksJ0_init_3_0 17 rfl rfl)
theorem dJ0_init_3_20 : decode cJ0_init_3 20 = .ok (.putfield 24, 3) := dk_181 0 24 (dk_at dksJ0_init_3_0 20 rfl rfl)
theorem dJ0_init_3_23 : decode cJ0_init_3 23 = .ok (.iload 4, 2) := dk_21 4 (dk_at dksJ0_init_3_1 0 rfl rfl)
theorem dJ0_init_3_25 : decode cJ0_init_3 25 = .ok (.ifCond .eq 11, 3) := dk_153 0 11 (dk_at dksJ0_init_3_1 2 rfl rfl)
theorem dJ0_init_3_28 : decode cJ0_init_3 28 = .ok (.aload_n 0, 1) := dk_42 (dk_at dksJ0_init_3_1 5 rfl rfl)
theorem dJ0_init_3_29 : decode cJ0_init_3 29 = .ok (.invokevirtual 27, 3) := dk_182 0 27 (dk_at dksJ0_init_3_1 6 rfl rfl)
theorem dJ0_init_3_32 : decode cJ0_init_3 32 = .ok (.pop, 1) := dk_87 (dk_at dksJ0_init_3_1 9 rfl rfl)
theorem dJ0_init_3_33 : decode cJ0_init_3 33 = .ok (.goto 8, 3) := dk_167 0 8 (dk_at dksJ0_init_3_1 10 rfl rfl)
theorem dJ0_init_3_36 : decode cJ0_init_3 36 = .ok (.aload_n 0, 1) := dk_42 (dk_at dksJ0_init_3_1 13 rfl rfl)
theorem dJ0_init_3_37 : decode cJ0_init_3 37 = .ok (.aconst_null, 1) := dk_1 (dk_at dksJ0_init_3_1 14 rfl rfl)
theorem dJ0_init_3_38 : decode cJ0_init_3 38 = .ok (.putfield 17, 3) := dk_181 0 17 (dk_at dksJ0_init_3_1 15 rfl rfl)
theorem dJ0_init_3_41 : decode cJ0_init_3 41 = .ok (.aload_n 0, 1) := dk_42 (dk_at dksJ0_init_3_1 18 rfl rfl)
theorem dJ0_init_3_42 : decode cJ0_init_3 42 = .ok (.aload_n 1, 1) := dk_43 (dk_at dksJ0_init_3_1 19 rfl rfl)
theorem dJ0_init_3_43 : decode cJ0_init_3 43 = .ok (.putfield 31, 3) := dk_181 0 31 (dk_at dksJ0_init_3_1 20 rfl rfl)
theorem dJ0_init_3_46 : decode cJ0_init_3 46 = .ok (.aload_n 0, 1) := dk_42 (dk_at dksJ0_init_3_1 23 rfl rfl)
theorem dJ0_init_3_47 : decode cJ0_init_3 47 = .ok (.aload_n 2, 1) := dk_44 (dk_at dksJ0_init_3_2 0 rfl rfl)
theorem dJ0_init_3_48 : decode cJ0_init_3 48 = .ok (.putfield 7, 3) := dk_181 0 7 (dk_at dksJ0_init_3_2 1 rfl rfl)
theorem dJ0_init_3_51 : decode cJ0_init_3 51 = .ok (.iload_n 3, 1) := dk_29 (dk_at dksJ0_init_3_2 4 rfl rfl)
theorem dJ0_init_3_52 : decode cJ0_init_3 52 = .ok (.ifCond .ne 8, 3) := dk_154 0 8 (dk_at dksJ0_init_3_2 5 rfl rfl)
theorem dJ0_init_3_55 : decode cJ0_init_3 55 = .ok (.aload_n 0, 1) := dk_42 (dk_at dksJ0_init_3_2 8 rfl rfl)
theorem dJ0_init_3_56 : decode cJ0_init_3 56 = .ok (.aconst_null, 1) := dk_1 (dk_at dksJ0_init_3_2 9 rfl rfl)
theorem dJ0_init_3_57 : decode cJ0_init_3 57 = .ok (.putfield 24, 3) := dk_181 0 24 (dk_at dksJ0_init_3_2 10 rfl rfl)
theorem dJ0_init_3_60 : decode cJ0_init_3 60 = .ok (.return_, 1) := dk_177 (dk_at dksJ0_init_3_2 13 rfl rfl)
theorem q86 : (Jvm.Cond.initialized "java/lang/Throwable") ∈ lw_all := lw_g (lw_at lw_m1 7 rfl) rfl
theorem q310 : (Jvm.Cond.instanceMethod ({ cls := "java/lang/Throwable", name := "<init>", desc := "(Ljava/lang/String;)V" } : Jvm.MethodName)) ∈ lw_all := lw_g (lw_at lw_m1 231 rfl) rfl
theorem q311 : (Jvm.Cond.code ({ cls := "java/lang/Throwable", name := "<init>", desc := "(Ljava/lang/String;)V" } : Jvm.MethodName) prog_34_method_2_code (2 : Nat) (Option.none : Option Jvm.ClassFile.FieldType)) ∈ lw_all := lw_g (lw_at lw_m1 232 rfl) rfl
theorem q312 : (Jvm.Cond.methodLink "java/lang/Throwable" (1 : Nat) ({ cls := "java/lang/Object", name := "<init>", desc := "()V" } : Jvm.MethodName)) ∈ lw_all := lw_g (lw_at lw_m1 233 rfl) rfl
theorem q313 : (Jvm.Cond.fieldLink "java/lang/Throwable" (13 : Nat) "java/lang/Throwable" "UNASSIGNED_STACK" "[Ljava/lang/StackTraceElement;") ∈ lw_all := lw_g (lw_at lw_m1 234 rfl) rfl
theorem q314 : (Jvm.Cond.laysStatic "java/lang/Throwable" "UNASSIGNED_STACK" "[Ljava/lang/StackTraceElement;") ∈ lw_tbl := lw_at lw_m1 235 rfl
theorem q315 : (Jvm.Cond.fieldLink "java/lang/Throwable" (20 : Nat) "java/lang/Throwable" "SUPPRESSED_SENTINEL" "Ljava/util/List;") ∈ lw_all := lw_g (lw_at lw_m1 236 rfl) rfl
theorem q316 : (Jvm.Cond.laysStatic "java/lang/Throwable" "SUPPRESSED_SENTINEL" "Ljava/util/List;") ∈ lw_tbl := lw_at lw_m1 237 rfl
theorem q317 : (Jvm.Cond.methodLink "java/lang/Throwable" (27 : Nat) ({ cls := "java/lang/Throwable", name := "fillInStackTrace", desc := "()Ljava/lang/Throwable;" } : Jvm.MethodName)) ∈ lw_all := lw_g (lw_at lw_m1 238 rfl) rfl
theorem q318 : (Jvm.Cond.instanceMethod ({ cls := "java/lang/Throwable", name := "fillInStackTrace", desc := "()Ljava/lang/Throwable;" } : Jvm.MethodName)) ∈ lw_all := lw_g (lw_at lw_m1 239 rfl) rfl
theorem q319 : (Jvm.Cond.sameMethod "java/lang/Throwable" "java/lang/Throwable" "fillInStackTrace" "()Ljava/lang/Throwable;") ∈ lw_all := lw_g (lw_at lw_m2 0 rfl) rfl
theorem q325 : (Jvm.Cond.codeSync ({ cls := "java/lang/Throwable", name := "fillInStackTrace", desc := "()Ljava/lang/Throwable;" } : Jvm.MethodName) prog_34_method_18_code (1 : Nat) (Option.some (Jvm.ClassFile.FieldType.object "java/lang/Throwable"))) ∈ lw_all := lw_g (lw_at lw_m2 6 rfl) rfl
theorem q326 : (Jvm.Cond.methodLink "java/lang/Throwable" (202 : Nat) ({ cls := "java/lang/Throwable", name := "fillInStackTrace", desc := "(I)Ljava/lang/Throwable;" } : Jvm.MethodName)) ∈ lw_all := lw_g (lw_at lw_m2 7 rfl) rfl
theorem q327 : (Jvm.Cond.privateMethod ({ cls := "java/lang/Throwable", name := "fillInStackTrace", desc := "(I)Ljava/lang/Throwable;" } : Jvm.MethodName)) ∈ lw_tbl := lw_at lw_m2 8 rfl
theorem q328 : (Jvm.Cond.instanceMethod ({ cls := "java/lang/Throwable", name := "fillInStackTrace", desc := "(I)Ljava/lang/Throwable;" } : Jvm.MethodName)) ∈ lw_all := lw_g (lw_at lw_m2 9 rfl) rfl
theorem q329 : (Jvm.Cond.instantiable "java/lang/Throwable" (6 : Nat)) ∈ lw_all := lw_g (lw_at lw_m2 10 rfl) rfl
theorem q330 : (Jvm.Cond.native ({ cls := "java/lang/Throwable", name := "fillInStackTrace", desc := "(I)Ljava/lang/Throwable;" } : Jvm.MethodName)) ∈ lw_all := lw_g (lw_at lw_m2 11 rfl) rfl
theorem q331 : (Jvm.Cond.fieldLink "java/lang/Throwable" (198 : Nat) "java/lang/Throwable" "backtrace" "Ljava/lang/Object;") ∈ lw_all := lw_g (lw_at lw_m2 12 rfl) rfl
theorem q332 : (Jvm.Cond.fieldLink "java/lang/Throwable" (31 : Nat) "java/lang/Throwable" "detailMessage" "Ljava/lang/String;") ∈ lw_all := lw_g (lw_at lw_m2 13 rfl) rfl
theorem q333 : (Jvm.Cond.fieldLink "java/lang/Throwable" (7 : Nat) "java/lang/Throwable" "cause" "Ljava/lang/Throwable;") ∈ lw_all := lw_g (lw_at lw_m2 14 rfl) rfl
theorem q334 : (Jvm.Cond.fieldLink "java/lang/Throwable" (17 : Nat) "java/lang/Throwable" "stackTrace" "[Ljava/lang/StackTraceElement;") ∈ lw_all := lw_g (lw_at lw_m2 15 rfl) rfl
theorem q335 : (Jvm.Cond.fieldLink "java/lang/Throwable" (24 : Nat) "java/lang/Throwable" "suppressedExceptions" "Ljava/util/List;") ∈ lw_all := lw_g (lw_at lw_m2 16 rfl) rfl
theorem q337 : (Jvm.Cond.soleField "java/lang/Throwable" "backtrace") ∈ lw_all := lw_g (lw_at lw_m2 18 rfl) rfl
theorem q339 : (Jvm.Cond.soleField "java/lang/Throwable" "detailMessage") ∈ lw_all := lw_g (lw_at lw_m2 20 rfl) rfl
theorem q341 : (Jvm.Cond.soleField "java/lang/Throwable" "cause") ∈ lw_all := lw_g (lw_at lw_m2 22 rfl) rfl
theorem q343 : (Jvm.Cond.soleField "java/lang/Throwable" "stackTrace") ∈ lw_all := lw_g (lw_at lw_m2 24 rfl) rfl
theorem q345 : (Jvm.Cond.soleField "java/lang/Throwable" "depth") ∈ lw_all := lw_g (lw_at lw_m2 26 rfl) rfl
theorem q347 : (Jvm.Cond.soleField "java/lang/Throwable" "suppressedExceptions") ∈ lw_all := lw_g (lw_at lw_m2 28 rfl) rfl
theorem q356 : (Jvm.Cond.declares ({ cls := "java/lang/Throwable", name := "<init>", desc := "()V" } : Jvm.MethodName)) ∈ lw_tbl := lw_at lw_m2 37 rfl
theorem q357 : (Jvm.Cond.declares ({ cls := "java/lang/Throwable", name := "<init>", desc := "(Ljava/lang/String;)V" } : Jvm.MethodName)) ∈ lw_tbl := lw_at lw_m2 38 rfl
theorem q359 : (Jvm.Cond.lays "java/lang/Throwable" "java/lang/Throwable" "cause" "Ljava/lang/Throwable;") ∈ lw_all := lw_g (lw_at lw_m2 40 rfl) rfl
theorem q360 : (Jvm.Cond.lays "java/lang/Throwable" "java/lang/Throwable" "stackTrace" "[Ljava/lang/StackTraceElement;") ∈ lw_all := lw_g (lw_at lw_m2 41 rfl) rfl
theorem q361 : (Jvm.Cond.lays "java/lang/Throwable" "java/lang/Throwable" "suppressedExceptions" "Ljava/util/List;") ∈ lw_all := lw_g (lw_at lw_m2 42 rfl) rfl
theorem q362 : (Jvm.Cond.lays "java/lang/Throwable" "java/lang/Throwable" "detailMessage" "Ljava/lang/String;") ∈ lw_all := lw_g (lw_at lw_m2 43 rfl) rfl
theorem q363 : (Jvm.Cond.lays "java/lang/Throwable" "java/lang/Throwable" "backtrace" "Ljava/lang/Object;") ∈ lw_all := lw_g (lw_at lw_m2 44 rfl) rfl
theorem q364 : (Jvm.Cond.fieldLink "java/lang/Throwable" (198 : Nat) "java/lang/Throwable" "backtrace" "Ljava/lang/Object;") ∈ lw_all := lw_g (lw_at lw_m2 45 rfl) rfl
theorem q365 : (Jvm.Cond.superclass "java/lang/Throwable" "java/lang/Object") ∈ lw_all := lw_g (lw_at lw_m2 46 rfl) rfl
theorem q366 : (Jvm.Cond.instanceMethod ({ cls := "java/lang/Throwable", name := "<init>", desc := "()V" } : Jvm.MethodName)) ∈ lw_all := lw_g (lw_at lw_m2 47 rfl) rfl
theorem q367 : (Jvm.Cond.code ({ cls := "java/lang/Throwable", name := "<init>", desc := "()V" } : Jvm.MethodName) prog_34_method_1_code (1 : Nat) (Option.none : Option Jvm.ClassFile.FieldType)) ∈ lw_all := lw_g (lw_at lw_m2 48 rfl) rfl
theorem q389 : (Jvm.Cond.instanceMethod ({ cls := "java/lang/Throwable", name := "<init>", desc := "(Ljava/lang/String;Ljava/lang/Throwable;ZZ)V" } : Jvm.MethodName)) ∈ lw_all := lw_g (lw_at lw_m2 70 rfl) rfl
theorem q390 : (Jvm.Cond.code ({ cls := "java/lang/Throwable", name := "<init>", desc := "(Ljava/lang/String;Ljava/lang/Throwable;ZZ)V" } : Jvm.MethodName) prog_34_method_5_code (5 : Nat) (Option.none : Option Jvm.ClassFile.FieldType)) ∈ lw_all := lw_g (lw_at lw_m2 71 rfl) rfl
theorem q1825 : (Jvm.Cond.sameMethod "java/lang/Throwable" "java/lang/Throwable" "fillInStackTrace" "(I)Ljava/lang/Throwable;") ∈ lw_all := lw_g (lw_at lw_m8 66 rfl) rfl
theorem in_J0 : ∀ w ∈ wsJ00, w ∈ lw_all := lw_in wsJ00 [359, 360, 361, 362, 363] (by decide +kernel) (by decide +kernel)

/-! java/lang/Exception -/
set_option maxRecDepth 100000
def RJ1 : String := "java/lang/Exception"
abbrev cJ1_init : ByteArray := prog_25_method_2_code
def yJ1_init : MethodName := ⟨RJ1, "<init>", "(Ljava/lang/String;)V"⟩
def dkwJ1_init_0 : List UInt8 := [42, 43, 183, 0, 7, 177]
abbrev dktJ1_init_0 : List UInt8 := dkwJ1_init_0 ++ []
theorem dksJ1_init_0 : cJ1_init.data.toList.drop 0 = dktJ1_init_0 := by decide +kernel
theorem dJ1_init_0 : decode cJ1_init 0 = .ok (.aload_n 0, 1) := dk_42 (dk_at dksJ1_init_0 0 rfl rfl)
theorem dJ1_init_1 : decode cJ1_init 1 = .ok (.aload_n 1, 1) := dk_43 (dk_at dksJ1_init_0 1 rfl rfl)
theorem dJ1_init_2 : decode cJ1_init 2 = .ok (.invokespecial 7, 3) := dk_183 0 7 (dk_at dksJ1_init_0 2 rfl rfl)
theorem dJ1_init_5 : decode cJ1_init 5 = .ok (.return_, 1) := dk_177 (dk_at dksJ1_init_0 5 rfl rfl)
abbrev cJ1_init_2 : ByteArray := prog_25_method_5_code
def yJ1_init_2 : MethodName := ⟨RJ1, "<init>", "(Ljava/lang/String;Ljava/lang/Throwable;ZZ)V"⟩
def dkwJ1_init_2_0 : List UInt8 := [42, 43, 44, 29, 21, 4, 183, 0, 16, 177]
abbrev dktJ1_init_2_0 : List UInt8 := dkwJ1_init_2_0 ++ []
theorem dksJ1_init_2_0 : cJ1_init_2.data.toList.drop 0 = dktJ1_init_2_0 := by decide +kernel
theorem dJ1_init_2_0 : decode cJ1_init_2 0 = .ok (.aload_n 0, 1) := dk_42 (dk_at dksJ1_init_2_0 0 rfl rfl)
theorem dJ1_init_2_1 : decode cJ1_init_2 1 = .ok (.aload_n 1, 1) := dk_43 (dk_at dksJ1_init_2_0 1 rfl rfl)
theorem dJ1_init_2_2 : decode cJ1_init_2 2 = .ok (.aload_n 2, 1) := dk_44 (dk_at dksJ1_init_2_0 2 rfl rfl)
theorem dJ1_init_2_3 : decode cJ1_init_2 3 = .ok (.iload_n 3, 1) := dk_29 (dk_at dksJ1_init_2_0 3 rfl rfl)
theorem dJ1_init_2_4 : decode cJ1_init_2 4 = .ok (.iload 4, 2) := dk_21 4 (dk_at dksJ1_init_2_0 4 rfl rfl)
theorem dJ1_init_2_6 : decode cJ1_init_2 6 = .ok (.invokespecial 16, 3) := dk_183 0 16 (dk_at dksJ1_init_2_0 6 rfl rfl)
theorem dJ1_init_2_9 : decode cJ1_init_2 9 = .ok (.return_, 1) := dk_177 (dk_at dksJ1_init_2_0 9 rfl rfl)
theorem q87 : (Jvm.Cond.initialized "java/lang/Exception") ∈ lw_all := lw_g (lw_at lw_m1 8 rfl) rfl
theorem q307 : (Jvm.Cond.instanceMethod ({ cls := "java/lang/Exception", name := "<init>", desc := "(Ljava/lang/String;)V" } : Jvm.MethodName)) ∈ lw_all := lw_g (lw_at lw_m1 228 rfl) rfl
theorem q308 : (Jvm.Cond.code ({ cls := "java/lang/Exception", name := "<init>", desc := "(Ljava/lang/String;)V" } : Jvm.MethodName) prog_25_method_2_code (2 : Nat) (Option.none : Option Jvm.ClassFile.FieldType)) ∈ lw_all := lw_g (lw_at lw_m1 229 rfl) rfl
theorem q309 : (Jvm.Cond.methodLink "java/lang/Exception" (7 : Nat) ({ cls := "java/lang/Throwable", name := "<init>", desc := "(Ljava/lang/String;)V" } : Jvm.MethodName)) ∈ lw_all := lw_g (lw_at lw_m1 230 rfl) rfl
theorem q354 : (Jvm.Cond.declares ({ cls := "java/lang/Exception", name := "<init>", desc := "()V" } : Jvm.MethodName)) ∈ lw_tbl := lw_at lw_m2 35 rfl
theorem q355 : (Jvm.Cond.declares ({ cls := "java/lang/Exception", name := "<init>", desc := "(Ljava/lang/String;)V" } : Jvm.MethodName)) ∈ lw_tbl := lw_at lw_m2 36 rfl
theorem q386 : (Jvm.Cond.instanceMethod ({ cls := "java/lang/Exception", name := "<init>", desc := "(Ljava/lang/String;Ljava/lang/Throwable;ZZ)V" } : Jvm.MethodName)) ∈ lw_all := lw_g (lw_at lw_m2 67 rfl) rfl
theorem q387 : (Jvm.Cond.code ({ cls := "java/lang/Exception", name := "<init>", desc := "(Ljava/lang/String;Ljava/lang/Throwable;ZZ)V" } : Jvm.MethodName) prog_25_method_5_code (5 : Nat) (Option.none : Option Jvm.ClassFile.FieldType)) ∈ lw_all := lw_g (lw_at lw_m2 68 rfl) rfl
theorem q388 : (Jvm.Cond.methodLink "java/lang/Exception" (16 : Nat) ({ cls := "java/lang/Throwable", name := "<init>", desc := "(Ljava/lang/String;Ljava/lang/Throwable;ZZ)V" } : Jvm.MethodName)) ∈ lw_all := lw_g (lw_at lw_m2 69 rfl) rfl

/-! jdk/internal/util/Preconditions -/
set_option maxRecDepth 100000
def RJ10 : String := "jdk/internal/util/Preconditions"
abbrev cJ10_checkIndex : ByteArray := prog_36_method_11_code
def yJ10_checkIndex : MethodName := ⟨RJ10, "checkIndex", "(IILjava/util/function/BiFunction;)I"⟩
def dkwJ10_checkIndex_0 : List UInt8 := [26, 155, 0, 8, 26, 27, 161, 0, 10, 44, 26, 27, 184, 0, 95, 191, 26, 172]
abbrev dktJ10_checkIndex_0 : List UInt8 := dkwJ10_checkIndex_0 ++ []
theorem dksJ10_checkIndex_0 : cJ10_checkIndex.data.toList.drop 0 = dktJ10_checkIndex_0 := by decide +kernel
theorem dJ10_checkIndex_0 : decode cJ10_checkIndex 0 = .ok (.iload_n 0, 1) := dk_26 (dk_at dksJ10_checkIndex_0 0 rfl rfl)
theorem dJ10_checkIndex_1 : decode cJ10_checkIndex 1 = .ok (.ifCond .lt 8, 3) := dk_155 0 8 (dk_at dksJ10_checkIndex_0 1 rfl rfl)
theorem dJ10_checkIndex_4 : decode cJ10_checkIndex 4 = .ok (.iload_n 0, 1) := dk_26 (dk_at dksJ10_checkIndex_0 4 rfl rfl)
theorem dJ10_checkIndex_5 : decode cJ10_checkIndex 5 = .ok (.iload_n 1, 1) := dk_27 (dk_at dksJ10_checkIndex_0 5 rfl rfl)
theorem dJ10_checkIndex_6 : decode cJ10_checkIndex 6 = .ok (.if_icmp .lt 10, 3) := dk_161 0 10 (dk_at dksJ10_checkIndex_0 6 rfl rfl)
theorem dJ10_checkIndex_9 : decode cJ10_checkIndex 9 = .ok (.aload_n 2, 1) := dk_44 (dk_at dksJ10_checkIndex_0 9 rfl rfl)
theorem dJ10_checkIndex_10 : decode cJ10_checkIndex 10 = .ok (.iload_n 0, 1) := dk_26 (dk_at dksJ10_checkIndex_0 10 rfl rfl)
theorem dJ10_checkIndex_11 : decode cJ10_checkIndex 11 = .ok (.iload_n 1, 1) := dk_27 (dk_at dksJ10_checkIndex_0 11 rfl rfl)
theorem dJ10_checkIndex_12 : decode cJ10_checkIndex 12 = .ok (.invokestatic 95, 3) := dk_184 0 95 (dk_at dksJ10_checkIndex_0 12 rfl rfl)
theorem dJ10_checkIndex_15 : decode cJ10_checkIndex 15 = .ok (.athrow, 1) := dk_191 (dk_at dksJ10_checkIndex_0 15 rfl rfl)
theorem dJ10_checkIndex_16 : decode cJ10_checkIndex 16 = .ok (.iload_n 0, 1) := dk_26 (dk_at dksJ10_checkIndex_0 16 rfl rfl)
theorem dJ10_checkIndex_17 : decode cJ10_checkIndex 17 = .ok (.ireturn, 1) := dk_172 (dk_at dksJ10_checkIndex_0 17 rfl rfl)
theorem q111 : (Jvm.Cond.initialized "jdk/internal/util/Preconditions") ∈ lw_all := lw_g (lw_at lw_m1 32 rfl) rfl
theorem q894 : (Jvm.Cond.laysStatic "jdk/internal/util/Preconditions" "SIOOBE_FORMATTER" "Ljava/util/function/BiFunction;") ∈ lw_tbl := lw_at lw_m4 95 rfl
theorem q896 : (Jvm.Cond.static ({ cls := "jdk/internal/util/Preconditions", name := "checkIndex", desc := "(IILjava/util/function/BiFunction;)I" } : Jvm.MethodName)) ∈ lw_all := lw_g (lw_at lw_m4 97 rfl) rfl
theorem q897 : (Jvm.Cond.code ({ cls := "jdk/internal/util/Preconditions", name := "checkIndex", desc := "(IILjava/util/function/BiFunction;)I" } : Jvm.MethodName) prog_36_method_11_code (3 : Nat) (Option.some Jvm.ClassFile.FieldType.int)) ∈ lw_all := lw_g (lw_at lw_m4 98 rfl) rfl

/-! java/lang/StringUTF16 -/
set_option maxRecDepth 100000
def RJ11 : String := "java/lang/StringUTF16"
abbrev cJ11_charAt : ByteArray := prog_32_method_83_code
def yJ11_charAt : MethodName := ⟨RJ11, "charAt", "([BI)C"⟩
def dkwJ11_charAt_0 : List UInt8 := [27, 42, 184, 0, 67, 42, 27, 184, 0, 71, 172]
abbrev dktJ11_charAt_0 : List UInt8 := dkwJ11_charAt_0 ++ []
theorem dksJ11_charAt_0 : cJ11_charAt.data.toList.drop 0 = dktJ11_charAt_0 := by decide +kernel
theorem dJ11_charAt_0 : decode cJ11_charAt 0 = .ok (.iload_n 1, 1) := dk_27 (dk_at dksJ11_charAt_0 0 rfl rfl)
theorem dJ11_charAt_1 : decode cJ11_charAt 1 = .ok (.aload_n 0, 1) := dk_42 (dk_at dksJ11_charAt_0 1 rfl rfl)
theorem dJ11_charAt_2 : decode cJ11_charAt 2 = .ok (.invokestatic 67, 3) := dk_184 0 67 (dk_at dksJ11_charAt_0 2 rfl rfl)
theorem dJ11_charAt_5 : decode cJ11_charAt 5 = .ok (.aload_n 0, 1) := dk_42 (dk_at dksJ11_charAt_0 5 rfl rfl)
theorem dJ11_charAt_6 : decode cJ11_charAt 6 = .ok (.iload_n 1, 1) := dk_27 (dk_at dksJ11_charAt_0 6 rfl rfl)
theorem dJ11_charAt_7 : decode cJ11_charAt 7 = .ok (.invokestatic 71, 3) := dk_184 0 71 (dk_at dksJ11_charAt_0 7 rfl rfl)
theorem dJ11_charAt_10 : decode cJ11_charAt 10 = .ok (.ireturn, 1) := dk_172 (dk_at dksJ11_charAt_0 10 rfl rfl)
abbrev cJ11_checkIndex : ByteArray := prog_32_method_91_code
def yJ11_checkIndex : MethodName := ⟨RJ11, "checkIndex", "(I[B)V"⟩
def dkwJ11_checkIndex_0 : List UInt8 := [26, 43, 184, 0, 48, 184, 1, 158, 177]
abbrev dktJ11_checkIndex_0 : List UInt8 := dkwJ11_checkIndex_0 ++ []
theorem dksJ11_checkIndex_0 : cJ11_checkIndex.data.toList.drop 0 = dktJ11_checkIndex_0 := by decide +kernel
theorem dJ11_checkIndex_0 : decode cJ11_checkIndex 0 = .ok (.iload_n 0, 1) := dk_26 (dk_at dksJ11_checkIndex_0 0 rfl rfl)
theorem dJ11_checkIndex_1 : decode cJ11_checkIndex 1 = .ok (.aload_n 1, 1) := dk_43 (dk_at dksJ11_checkIndex_0 1 rfl rfl)
theorem dJ11_checkIndex_2 : decode cJ11_checkIndex 2 = .ok (.invokestatic 48, 3) := dk_184 0 48 (dk_at dksJ11_checkIndex_0 2 rfl rfl)
theorem dJ11_checkIndex_5 : decode cJ11_checkIndex 5 = .ok (.invokestatic 414, 3) := dk_184 1 158 (dk_at dksJ11_checkIndex_0 5 rfl rfl)
theorem dJ11_checkIndex_8 : decode cJ11_checkIndex 8 = .ok (.return_, 1) := dk_177 (dk_at dksJ11_checkIndex_0 8 rfl rfl)
abbrev cJ11_length : ByteArray := prog_32_method_6_code
def yJ11_length : MethodName := ⟨RJ11, "length", "([B)I"⟩
def dkwJ11_length_0 : List UInt8 := [42, 190, 4, 122, 172]
abbrev dktJ11_length_0 : List UInt8 := dkwJ11_length_0 ++ []
theorem dksJ11_length_0 : cJ11_length.data.toList.drop 0 = dktJ11_length_0 := by decide +kernel
theorem dJ11_length_0 : decode cJ11_length 0 = .ok (.aload_n 0, 1) := dk_42 (dk_at dksJ11_length_0 0 rfl rfl)
theorem dJ11_length_1 : decode cJ11_length 1 = .ok (.arraylength, 1) := dk_190 (dk_at dksJ11_length_0 1 rfl rfl)
theorem dJ11_length_2 : decode cJ11_length 2 = .ok (.iconst 1, 1) := dk_4 (dk_at dksJ11_length_0 2 rfl rfl)
theorem dJ11_length_3 : decode cJ11_length 3 = .ok (.ishr, 1) := dk_122 (dk_at dksJ11_length_0 3 rfl rfl)
theorem dJ11_length_4 : decode cJ11_length 4 = .ok (.ireturn, 1) := dk_172 (dk_at dksJ11_length_0 4 rfl rfl)
abbrev cJ11_getChar : ByteArray := prog_32_method_5_code
def yJ11_getChar : MethodName := ⟨RJ11, "getChar", "([BI)C"⟩
def dkwJ11_getChar_2 : List UInt8 := [51, 17, 0, 255, 126, 178, 0, 63, 120, 128, 146, 172]
abbrev dktJ11_getChar_2 : List UInt8 := dkwJ11_getChar_2 ++ []
def dkwJ11_getChar_1 : List UInt8 := [183, 0, 56, 191, 27, 4, 120, 60, 42, 27, 132, 1, 1, 51, 17, 0, 255, 126, 178, 0, 59, 120, 42, 27]
abbrev dktJ11_getChar_1 : List UInt8 := dkwJ11_getChar_1 ++ dktJ11_getChar_2
def dkwJ11_getChar_0 : List UInt8 := [178, 0, 44, 154, 0, 25, 27, 155, 0, 11, 27, 42, 184, 0, 48, 161, 0, 13, 187, 0, 52, 89, 18, 54]
abbrev dktJ11_getChar_0 : List UInt8 := dkwJ11_getChar_0 ++ dktJ11_getChar_1
theorem dksJ11_getChar_0 : cJ11_getChar.data.toList.drop 0 = dktJ11_getChar_0 := by decide +kernel
theorem dksJ11_getChar_1 : cJ11_getChar.data.toList.drop 24 = dktJ11_getChar_1 := dk_seg dksJ11_getChar_0 24 rfl rfl
theorem dksJ11_getChar_2 : cJ11_getChar.data.toList.drop 48 = dktJ11_getChar_2 := dk_seg dksJ11_getChar_1 24 rfl rfl
theorem dJ11_getChar_0 : decode cJ11_getChar 0 = .ok (.getstatic 44, 3) := dk_178 0 44 (dk_at dksJ11_getChar_0 0 rfl rfl)
theorem dJ11_getChar_3 : decode cJ11_getChar 3 = .ok (.ifCond .ne 25, 3) := dk_154 0 25 (dk_at dksJ11_getChar_0 3 rfl rfl)
theorem dJ11_getChar_6 : decode cJ11_getChar 6 = .ok (.iload_n 1, 1) := dk_27 (dk_at dksJ11_getChar_0 6 rfl rfl)
theorem dJ11_getChar_7 : decode cJ11_getChar 7 = .ok (.ifCond .lt 11, 3) := dk_155 0 11 (dk_at dksJ11_getChar_0 7 rfl rfl)
theorem dJ11_getChar_10 : decode cJ11_getChar 10 = .ok (.iload_n 1, 1) := dk_27 (dk_at dksJ11_getChar_0 10 rfl rfl)
theorem dJ11_getChar_11 : decode cJ11_getChar 11 = .ok (.aload_n 0, 1) := dk_42 (dk_at dksJ11_getChar_0 11 rfl rfl)
theorem dJ11_getChar_12 : decode cJ11_getChar 12 = .ok (.invokestatic 48, 3) := dk_184 0 48 (dk_at dksJ11_getChar_0 12 rfl rfl)
theorem dJ11_getChar_15 : decode cJ11_getChar 15 = .ok (.if_icmp .lt 13, 3) := dk_161 0 13 (dk_at dksJ11_getChar_0 15 rfl rfl)
theorem dJ11_getChar_18 : decode cJ11_getChar 18 = .ok (.new 52, 3) := dk_187 0 52 (dk_at dksJ11_getChar_0 18 rfl rfl)
theorem dJ11_getChar_21 : decode cJ11_getChar 21 = .ok (.dup, 1) := dk_89 (dk_at dksJ11_getChar_0 21 rfl rfl)
theorem dJ11_getChar_22 : decode cJ11_getChar 22 = .ok (.ldc 54, 2) := dk_18 54 (dk_at dksJ11_getChar_0 22 rfl rfl)
theorem dJ11_getChar_24 : decode cJ11_getChar 24 = .ok (.invokespecial 56, 3) := dk_183 0 56 (dk_at dksJ11_getChar_1 0 rfl rfl)
theorem dJ11_getChar_27 : decode cJ11_getChar 27 = .ok (.athrow, 1) := dk_191 (dk_at dksJ11_getChar_1 3 rfl rfl)
theorem dJ11_getChar_28 : decode cJ11_getChar 28 = .ok (.iload_n 1, 1) := dk_27 (dk_at dksJ11_getChar_1 4 rfl rfl)
theorem dJ11_getChar_29 : decode cJ11_getChar 29 = .ok (.iconst 1, 1) := dk_4 (dk_at dksJ11_getChar_1 5 rfl rfl)
theorem dJ11_getChar_30 : decode cJ11_getChar 30 = .ok (.ishl, 1) := dk_120 (dk_at dksJ11_getChar_1 6 rfl rfl)
theorem dJ11_getChar_31 : decode cJ11_getChar 31 = .ok (.istore_n 1, 1) := dk_60 (dk_at dksJ11_getChar_1 7 rfl rfl)
theorem dJ11_getChar_32 : decode cJ11_getChar 32 = .ok (.aload_n 0, 1) := dk_42 (dk_at dksJ11_getChar_1 8 rfl rfl)
theorem dJ11_getChar_33 : decode cJ11_getChar 33 = .ok (.iload_n 1, 1) := dk_27 (dk_at dksJ11_getChar_1 9 rfl rfl)
theorem dJ11_getChar_34 : decode cJ11_getChar 34 = .ok (.iinc 1 1, 3) := dk_132 1 1 (dk_at dksJ11_getChar_1 10 rfl rfl)
theorem dJ11_getChar_37 : decode cJ11_getChar 37 = .ok (.baload, 1) := dk_51 (dk_at dksJ11_getChar_1 13 rfl rfl)
theorem dJ11_getChar_38 : decode cJ11_getChar 38 = .ok (.sipush 255, 3) := dk_17 0 255 (dk_at dksJ11_getChar_1 14 rfl rfl)
theorem dJ11_getChar_41 : decode cJ11_getChar 41 = .ok (.iand, 1) := dk_126 (dk_at dksJ11_getChar_1 17 rfl rfl)
theorem dJ11_getChar_42 : decode cJ11_getChar 42 = .ok (.getstatic 59, 3) := dk_178 0 59 (dk_at dksJ11_getChar_1 18 rfl rfl)
theorem dJ11_getChar_45 : decode cJ11_getChar 45 = .ok (.ishl, 1) := dk_120 (dk_at dksJ11_getChar_1 21 rfl rfl)
theorem dJ11_getChar_46 : decode cJ11_getChar 46 = .ok (.aload_n 0, 1) := dk_42 (dk_at dksJ11_getChar_1 22 rfl rfl)
theorem dJ11_getChar_47 : decode cJ11_getChar 47 = .ok (.iload_n 1, 1) := dk_27 (dk_at dksJ11_getChar_1 23 rfl rfl)
theorem dJ11_getChar_48 : decode cJ11_getChar 48 = .ok (.baload, 1) := dk_51 (dk_at dksJ11_getChar_2 0 rfl rfl)
theorem dJ11_getChar_49 : decode cJ11_getChar 49 = .ok (.sipush 255, 3) := dk_17 0 255 (dk_at dksJ11_getChar_2 1 rfl rfl)
theorem dJ11_getChar_52 : decode cJ11_getChar 52 = .ok (.iand, 1) := dk_126 (dk_at dksJ11_getChar_2 4 rfl rfl)
theorem dJ11_getChar_53 : decode cJ11_getChar 53 = .ok (.getstatic 63, 3) := dk_178 0 63 (dk_at dksJ11_getChar_2 5 rfl rfl)
theorem dJ11_getChar_56 : decode cJ11_getChar 56 = .ok (.ishl, 1) := dk_120 (dk_at dksJ11_getChar_2 8 rfl rfl)
theorem dJ11_getChar_57 : decode cJ11_getChar 57 = .ok (.ior, 1) := dk_128 (dk_at dksJ11_getChar_2 9 rfl rfl)
theorem dJ11_getChar_58 : decode cJ11_getChar 58 = .ok (.i2c, 1) := dk_146 (dk_at dksJ11_getChar_2 10 rfl rfl)
theorem dJ11_getChar_59 : decode cJ11_getChar 59 = .ok (.ireturn, 1) := dk_172 (dk_at dksJ11_getChar_2 11 rfl rfl)
theorem q112 : (Jvm.Cond.initialized "java/lang/StringUTF16") ∈ lw_all := lw_g (lw_at lw_m1 33 rfl) rfl
theorem q899 : (Jvm.Cond.static ({ cls := "java/lang/StringUTF16", name := "charAt", desc := "([BI)C" } : Jvm.MethodName)) ∈ lw_all := lw_g (lw_at lw_m4 100 rfl) rfl
theorem q900 : (Jvm.Cond.code ({ cls := "java/lang/StringUTF16", name := "charAt", desc := "([BI)C" } : Jvm.MethodName) prog_32_method_83_code (2 : Nat) (Option.some Jvm.ClassFile.FieldType.char)) ∈ lw_all := lw_g (lw_at lw_m4 101 rfl) rfl
theorem q901 : (Jvm.Cond.methodLink "java/lang/StringUTF16" (67 : Nat) ({ cls := "java/lang/StringUTF16", name := "checkIndex", desc := "(I[B)V" } : Jvm.MethodName)) ∈ lw_all := lw_g (lw_at lw_m4 102 rfl) rfl
theorem q902 : (Jvm.Cond.static ({ cls := "java/lang/StringUTF16", name := "checkIndex", desc := "(I[B)V" } : Jvm.MethodName)) ∈ lw_all := lw_g (lw_at lw_m4 103 rfl) rfl
theorem q903 : (Jvm.Cond.code ({ cls := "java/lang/StringUTF16", name := "checkIndex", desc := "(I[B)V" } : Jvm.MethodName) prog_32_method_91_code (2 : Nat) (Option.none : Option Jvm.ClassFile.FieldType)) ∈ lw_all := lw_g (lw_at lw_m4 104 rfl) rfl
theorem q904 : (Jvm.Cond.methodLink "java/lang/StringUTF16" (48 : Nat) ({ cls := "java/lang/StringUTF16", name := "length", desc := "([B)I" } : Jvm.MethodName)) ∈ lw_all := lw_g (lw_at lw_m4 105 rfl) rfl
theorem q905 : (Jvm.Cond.static ({ cls := "java/lang/StringUTF16", name := "length", desc := "([B)I" } : Jvm.MethodName)) ∈ lw_all := lw_g (lw_at lw_m4 106 rfl) rfl
theorem q906 : (Jvm.Cond.code ({ cls := "java/lang/StringUTF16", name := "length", desc := "([B)I" } : Jvm.MethodName) prog_32_method_6_code (1 : Nat) (Option.some Jvm.ClassFile.FieldType.int)) ∈ lw_all := lw_g (lw_at lw_m4 107 rfl) rfl
theorem q907 : (Jvm.Cond.methodLink "java/lang/StringUTF16" (414 : Nat) ({ cls := "java/lang/String", name := "checkIndex", desc := "(II)V" } : Jvm.MethodName)) ∈ lw_all := lw_g (lw_at lw_m4 108 rfl) rfl
theorem q908 : (Jvm.Cond.methodLink "java/lang/StringUTF16" (71 : Nat) ({ cls := "java/lang/StringUTF16", name := "getChar", desc := "([BI)C" } : Jvm.MethodName)) ∈ lw_all := lw_g (lw_at lw_m4 109 rfl) rfl
theorem q909 : (Jvm.Cond.static ({ cls := "java/lang/StringUTF16", name := "getChar", desc := "([BI)C" } : Jvm.MethodName)) ∈ lw_all := lw_g (lw_at lw_m4 110 rfl) rfl
theorem q910 : (Jvm.Cond.code ({ cls := "java/lang/StringUTF16", name := "getChar", desc := "([BI)C" } : Jvm.MethodName) prog_32_method_5_code (2 : Nat) (Option.some Jvm.ClassFile.FieldType.char)) ∈ lw_all := lw_g (lw_at lw_m4 111 rfl) rfl
theorem q911 : (Jvm.Cond.fieldLink "java/lang/StringUTF16" (44 : Nat) "java/lang/StringUTF16" "$assertionsDisabled" "Z") ∈ lw_all := lw_g (lw_at lw_m4 112 rfl) rfl
theorem q912 : (Jvm.Cond.laysStatic "java/lang/StringUTF16" "$assertionsDisabled" "Z") ∈ lw_tbl := lw_at lw_m4 113 rfl
theorem q913 : (Jvm.Cond.fieldLink "java/lang/StringUTF16" (59 : Nat) "java/lang/StringUTF16" "HI_BYTE_SHIFT" "I") ∈ lw_all := lw_g (lw_at lw_m4 114 rfl) rfl
theorem q914 : (Jvm.Cond.laysStatic "java/lang/StringUTF16" "HI_BYTE_SHIFT" "I") ∈ lw_tbl := lw_at lw_m4 115 rfl
theorem q915 : (Jvm.Cond.fieldLink "java/lang/StringUTF16" (63 : Nat) "java/lang/StringUTF16" "LO_BYTE_SHIFT" "I") ∈ lw_all := lw_g (lw_at lw_m4 116 rfl) rfl
theorem q916 : (Jvm.Cond.laysStatic "java/lang/StringUTF16" "LO_BYTE_SHIFT" "I") ∈ lw_tbl := lw_at lw_m4 117 rfl

/-! java/util/Arrays -/
set_option maxRecDepth 100000
def RJ12 : String := "java/util/Arrays"
abbrev cJ12_fill : ByteArray := prog_35_method_103_code
def yJ12_fill : MethodName := ⟨RJ12, "fill", "([II)V"⟩
def dkwJ12_fill_0 : List UInt8 := [3, 61, 42, 190, 62, 28, 29, 162, 0, 13, 42, 28, 27, 79, 132, 2, 1, 167, 255, 244, 177]
abbrev dktJ12_fill_0 : List UInt8 := dkwJ12_fill_0 ++ []
theorem dksJ12_fill_0 : cJ12_fill.data.toList.drop 0 = dktJ12_fill_0 := by decide +kernel
theorem dJ12_fill_0 : decode cJ12_fill 0 = .ok (.iconst 0, 1) := dk_3 (dk_at dksJ12_fill_0 0 rfl rfl)
theorem dJ12_fill_1 : decode cJ12_fill 1 = .ok (.istore_n 2, 1) := dk_61 (dk_at dksJ12_fill_0 1 rfl rfl)
theorem dJ12_fill_2 : decode cJ12_fill 2 = .ok (.aload_n 0, 1) := dk_42 (dk_at dksJ12_fill_0 2 rfl rfl)
theorem dJ12_fill_3 : decode cJ12_fill 3 = .ok (.arraylength, 1) := dk_190 (dk_at dksJ12_fill_0 3 rfl rfl)
theorem dJ12_fill_4 : decode cJ12_fill 4 = .ok (.istore_n 3, 1) := dk_62 (dk_at dksJ12_fill_0 4 rfl rfl)
theorem dJ12_fill_5 : decode cJ12_fill 5 = .ok (.iload_n 2, 1) := dk_28 (dk_at dksJ12_fill_0 5 rfl rfl)
theorem dJ12_fill_6 : decode cJ12_fill 6 = .ok (.iload_n 3, 1) := dk_29 (dk_at dksJ12_fill_0 6 rfl rfl)
theorem dJ12_fill_7 : decode cJ12_fill 7 = .ok (.if_icmp .ge 13, 3) := dk_162 0 13 (dk_at dksJ12_fill_0 7 rfl rfl)
theorem dJ12_fill_10 : decode cJ12_fill 10 = .ok (.aload_n 0, 1) := dk_42 (dk_at dksJ12_fill_0 10 rfl rfl)
theorem dJ12_fill_11 : decode cJ12_fill 11 = .ok (.iload_n 2, 1) := dk_28 (dk_at dksJ12_fill_0 11 rfl rfl)
theorem dJ12_fill_12 : decode cJ12_fill 12 = .ok (.iload_n 1, 1) := dk_27 (dk_at dksJ12_fill_0 12 rfl rfl)
theorem dJ12_fill_13 : decode cJ12_fill 13 = .ok (.iastore, 1) := dk_79 (dk_at dksJ12_fill_0 13 rfl rfl)
theorem dJ12_fill_14 : decode cJ12_fill 14 = .ok (.iinc 2 1, 3) := dk_132 2 1 (dk_at dksJ12_fill_0 14 rfl rfl)
theorem dJ12_fill_17 : decode cJ12_fill 17 = .ok (.goto (-12), 3) := dk_167 255 244 (dk_at dksJ12_fill_0 17 rfl rfl)
theorem dJ12_fill_20 : decode cJ12_fill 20 = .ok (.return_, 1) := dk_177 (dk_at dksJ12_fill_0 20 rfl rfl)
theorem q114 : (Jvm.Cond.initialized "java/util/Arrays") ∈ lw_all := lw_g (lw_at lw_m1 35 rfl) rfl
theorem q1213 : (Jvm.Cond.static ({ cls := "java/util/Arrays", name := "fill", desc := "([II)V" } : Jvm.MethodName)) ∈ lw_all := lw_g (lw_at lw_m5 174 rfl) rfl
theorem q1214 : (Jvm.Cond.code ({ cls := "java/util/Arrays", name := "fill", desc := "([II)V" } : Jvm.MethodName) prog_35_method_103_code (4 : Nat) (Option.none : Option Jvm.ClassFile.FieldType)) ∈ lw_all := lw_g (lw_at lw_m5 175 rfl) rfl

/-! java/lang/Object -/
set_option maxRecDepth 100000
def RJ13 : String := "java/lang/Object"
abbrev cJ13_init : ByteArray := object_method_1_code
def yJ13_init : MethodName := ⟨RJ13, "<init>", "()V"⟩
theorem dJ13_init_0 : decode cJ13_init 0 = .ok (.return_, 1) := by decide +kernel
theorem q121 : (Jvm.Cond.instanceMethod ({ cls := "java/lang/Object", name := "<init>", desc := "()V" } : Jvm.MethodName)) ∈ lw_all := lw_g (lw_at lw_m1 42 rfl) rfl
theorem q122 : (Jvm.Cond.code ({ cls := "java/lang/Object", name := "<init>", desc := "()V" } : Jvm.MethodName) object_method_1_code (1 : Nat) (Option.none : Option Jvm.ClassFile.FieldType)) ∈ lw_all := lw_g (lw_at lw_m1 43 rfl) rfl

/-! java/lang/RuntimeException -/
set_option maxRecDepth 100000
def RJ2 : String := "java/lang/RuntimeException"
abbrev cJ2_init : ByteArray := prog_29_method_2_code
def yJ2_init : MethodName := ⟨RJ2, "<init>", "(Ljava/lang/String;)V"⟩
def dkwJ2_init_0 : List UInt8 := [42, 43, 183, 0, 7, 177]
abbrev dktJ2_init_0 : List UInt8 := dkwJ2_init_0 ++ []
theorem dksJ2_init_0 : cJ2_init.data.toList.drop 0 = dktJ2_init_0 := by decide +kernel
theorem dJ2_init_0 : decode cJ2_init 0 = .ok (.aload_n 0, 1) := dk_42 (dk_at dksJ2_init_0 0 rfl rfl)
theorem dJ2_init_1 : decode cJ2_init 1 = .ok (.aload_n 1, 1) := dk_43 (dk_at dksJ2_init_0 1 rfl rfl)
theorem dJ2_init_2 : decode cJ2_init 2 = .ok (.invokespecial 7, 3) := dk_183 0 7 (dk_at dksJ2_init_0 2 rfl rfl)
theorem dJ2_init_5 : decode cJ2_init 5 = .ok (.return_, 1) := dk_177 (dk_at dksJ2_init_0 5 rfl rfl)
theorem q88 : (Jvm.Cond.initialized "java/lang/RuntimeException") ∈ lw_all := lw_g (lw_at lw_m1 9 rfl) rfl
theorem q304 : (Jvm.Cond.instanceMethod ({ cls := "java/lang/RuntimeException", name := "<init>", desc := "(Ljava/lang/String;)V" } : Jvm.MethodName)) ∈ lw_all := lw_g (lw_at lw_m1 225 rfl) rfl
theorem q305 : (Jvm.Cond.code ({ cls := "java/lang/RuntimeException", name := "<init>", desc := "(Ljava/lang/String;)V" } : Jvm.MethodName) prog_29_method_2_code (2 : Nat) (Option.none : Option Jvm.ClassFile.FieldType)) ∈ lw_all := lw_g (lw_at lw_m1 226 rfl) rfl
theorem q306 : (Jvm.Cond.methodLink "java/lang/RuntimeException" (7 : Nat) ({ cls := "java/lang/Exception", name := "<init>", desc := "(Ljava/lang/String;)V" } : Jvm.MethodName)) ∈ lw_all := lw_g (lw_at lw_m1 227 rfl) rfl
theorem q352 : (Jvm.Cond.declares ({ cls := "java/lang/RuntimeException", name := "<init>", desc := "()V" } : Jvm.MethodName)) ∈ lw_tbl := lw_at lw_m2 33 rfl
theorem q353 : (Jvm.Cond.declares ({ cls := "java/lang/RuntimeException", name := "<init>", desc := "(Ljava/lang/String;)V" } : Jvm.MethodName)) ∈ lw_tbl := lw_at lw_m2 34 rfl

/-! java/lang/IndexOutOfBoundsException -/
set_option maxRecDepth 100000
def RJ3 : String := "java/lang/IndexOutOfBoundsException"
abbrev cJ3_init : ByteArray := prog_26_method_2_code
def yJ3_init : MethodName := ⟨RJ3, "<init>", "(Ljava/lang/String;)V"⟩
def dkwJ3_init_0 : List UInt8 := [42, 43, 183, 0, 7, 177]
abbrev dktJ3_init_0 : List UInt8 := dkwJ3_init_0 ++ []
theorem dksJ3_init_0 : cJ3_init.data.toList.drop 0 = dktJ3_init_0 := by decide +kernel
theorem dJ3_init_0 : decode cJ3_init 0 = .ok (.aload_n 0, 1) := dk_42 (dk_at dksJ3_init_0 0 rfl rfl)
theorem dJ3_init_1 : decode cJ3_init 1 = .ok (.aload_n 1, 1) := dk_43 (dk_at dksJ3_init_0 1 rfl rfl)
theorem dJ3_init_2 : decode cJ3_init 2 = .ok (.invokespecial 7, 3) := dk_183 0 7 (dk_at dksJ3_init_0 2 rfl rfl)
theorem dJ3_init_5 : decode cJ3_init 5 = .ok (.return_, 1) := dk_177 (dk_at dksJ3_init_0 5 rfl rfl)
theorem q89 : (Jvm.Cond.initialized "java/lang/IndexOutOfBoundsException") ∈ lw_all := lw_g (lw_at lw_m1 10 rfl) rfl
theorem q301 : (Jvm.Cond.instanceMethod ({ cls := "java/lang/IndexOutOfBoundsException", name := "<init>", desc := "(Ljava/lang/String;)V" } : Jvm.MethodName)) ∈ lw_all := lw_g (lw_at lw_m1 222 rfl) rfl
theorem q302 : (Jvm.Cond.code ({ cls := "java/lang/IndexOutOfBoundsException", name := "<init>", desc := "(Ljava/lang/String;)V" } : Jvm.MethodName) prog_26_method_2_code (2 : Nat) (Option.none : Option Jvm.ClassFile.FieldType)) ∈ lw_all := lw_g (lw_at lw_m1 223 rfl) rfl
theorem q303 : (Jvm.Cond.methodLink "java/lang/IndexOutOfBoundsException" (7 : Nat) ({ cls := "java/lang/RuntimeException", name := "<init>", desc := "(Ljava/lang/String;)V" } : Jvm.MethodName)) ∈ lw_all := lw_g (lw_at lw_m1 224 rfl) rfl
theorem q350 : (Jvm.Cond.declares ({ cls := "java/lang/IndexOutOfBoundsException", name := "<init>", desc := "()V" } : Jvm.MethodName)) ∈ lw_tbl := lw_at lw_m2 31 rfl
theorem q351 : (Jvm.Cond.declares ({ cls := "java/lang/IndexOutOfBoundsException", name := "<init>", desc := "(Ljava/lang/String;)V" } : Jvm.MethodName)) ∈ lw_tbl := lw_at lw_m2 32 rfl

/-! java/lang/ArrayIndexOutOfBoundsException -/
set_option maxRecDepth 100000
def RJ4 : String := "java/lang/ArrayIndexOutOfBoundsException"
def TJ4 : u_T := fun k => match k with
  | 0 => ("java/lang/Throwable", "backtrace", "Ljava/lang/Object;", false)
  | 1 => ("java/lang/Throwable", "detailMessage", "Ljava/lang/String;", false)
  | 2 => ("java/lang/Throwable", "cause", "Ljava/lang/Throwable;", false)
  | 3 => ("java/lang/Throwable", "stackTrace", "[Ljava/lang/StackTraceElement;", false)
  | 4 => ("java/lang/Throwable", "depth", "I", false)
  | _ => ("java/lang/Throwable", "suppressedExceptions", "Ljava/util/List;", false)
def tyJ4 : Nat → FieldType := fun k => match k with
  | 0 => .object "java/lang/Object"
  | 1 => .object "java/lang/String"
  | 2 => .object "java/lang/Throwable"
  | 3 => .array (.object "java/lang/StackTraceElement")
  | 4 => .int
  | _ => .object "java/util/List"
abbrev wsJ40 : List Cond := u_ws RJ4 TJ4 6
theorem nmJ4 : ∀ a, a < 6 → ∀ b, b < 6 → a ≠ b → (TJ4 a).2.1 ≠ (TJ4 b).2.1 := by decide +kernel
theorem tyJ4_ok : ∀ k, k < 6 → parseFieldDescriptor (TJ4 k).2.2.1 = some (tyJ4 k) := by decide +kernel
abbrev cJ4_init : ByteArray := prog_23_method_2_code
def yJ4_init : MethodName := ⟨RJ4, "<init>", "(Ljava/lang/String;)V"⟩
def dkwJ4_init_0 : List UInt8 := [42, 43, 183, 0, 7, 177]
abbrev dktJ4_init_0 : List UInt8 := dkwJ4_init_0 ++ []
theorem dksJ4_init_0 : cJ4_init.data.toList.drop 0 = dktJ4_init_0 := by decide +kernel
theorem dJ4_init_0 : decode cJ4_init 0 = .ok (.aload_n 0, 1) := dk_42 (dk_at dksJ4_init_0 0 rfl rfl)
theorem dJ4_init_1 : decode cJ4_init 1 = .ok (.aload_n 1, 1) := dk_43 (dk_at dksJ4_init_0 1 rfl rfl)
theorem dJ4_init_2 : decode cJ4_init 2 = .ok (.invokespecial 7, 3) := dk_183 0 7 (dk_at dksJ4_init_0 2 rfl rfl)
theorem dJ4_init_5 : decode cJ4_init 5 = .ok (.return_, 1) := dk_177 (dk_at dksJ4_init_0 5 rfl rfl)
theorem q90 : (Jvm.Cond.initialized "java/lang/ArrayIndexOutOfBoundsException") ∈ lw_all := lw_g (lw_at lw_m1 11 rfl) rfl
theorem q297 : (Jvm.Cond.instantiable "java/lang/ArrayIndexOutOfBoundsException" (6 : Nat)) ∈ lw_all := lw_g (lw_at lw_m1 218 rfl) rfl
theorem q298 : (Jvm.Cond.instanceMethod ({ cls := "java/lang/ArrayIndexOutOfBoundsException", name := "<init>", desc := "(Ljava/lang/String;)V" } : Jvm.MethodName)) ∈ lw_all := lw_g (lw_at lw_m1 219 rfl) rfl
theorem q299 : (Jvm.Cond.code ({ cls := "java/lang/ArrayIndexOutOfBoundsException", name := "<init>", desc := "(Ljava/lang/String;)V" } : Jvm.MethodName) prog_23_method_2_code (2 : Nat) (Option.none : Option Jvm.ClassFile.FieldType)) ∈ lw_all := lw_g (lw_at lw_m1 220 rfl) rfl
theorem q300 : (Jvm.Cond.methodLink "java/lang/ArrayIndexOutOfBoundsException" (7 : Nat) ({ cls := "java/lang/IndexOutOfBoundsException", name := "<init>", desc := "(Ljava/lang/String;)V" } : Jvm.MethodName)) ∈ lw_all := lw_g (lw_at lw_m1 221 rfl) rfl
theorem q322 : (Jvm.Cond.selects "java/lang/ArrayIndexOutOfBoundsException" ({ cls := "java/lang/Throwable", name := "fillInStackTrace", desc := "()Ljava/lang/Throwable;" } : Jvm.MethodName) ({ cls := "java/lang/Throwable", name := "fillInStackTrace", desc := "()Ljava/lang/Throwable;" } : Jvm.MethodName)) ∈ lw_all := lw_g (lw_at lw_m2 3 rfl) rfl
theorem q336 : (Jvm.Cond.lays "java/lang/ArrayIndexOutOfBoundsException" "java/lang/Throwable" "backtrace" "Ljava/lang/Object;") ∈ lw_all := lw_g (lw_at lw_m2 17 rfl) rfl
theorem q338 : (Jvm.Cond.lays "java/lang/ArrayIndexOutOfBoundsException" "java/lang/Throwable" "detailMessage" "Ljava/lang/String;") ∈ lw_all := lw_g (lw_at lw_m2 19 rfl) rfl
theorem q340 : (Jvm.Cond.lays "java/lang/ArrayIndexOutOfBoundsException" "java/lang/Throwable" "cause" "Ljava/lang/Throwable;") ∈ lw_all := lw_g (lw_at lw_m2 21 rfl) rfl
theorem q342 : (Jvm.Cond.lays "java/lang/ArrayIndexOutOfBoundsException" "java/lang/Throwable" "stackTrace" "[Ljava/lang/StackTraceElement;") ∈ lw_all := lw_g (lw_at lw_m2 23 rfl) rfl
theorem q344 : (Jvm.Cond.lays "java/lang/ArrayIndexOutOfBoundsException" "java/lang/Throwable" "depth" "I") ∈ lw_all := lw_g (lw_at lw_m2 25 rfl) rfl
theorem q346 : (Jvm.Cond.lays "java/lang/ArrayIndexOutOfBoundsException" "java/lang/Throwable" "suppressedExceptions" "Ljava/util/List;") ∈ lw_all := lw_g (lw_at lw_m2 27 rfl) rfl
theorem q348 : (Jvm.Cond.superclass "java/lang/ArrayIndexOutOfBoundsException" "java/lang/IndexOutOfBoundsException") ∈ lw_all := lw_g (lw_at lw_m2 29 rfl) rfl
theorem q349 : (Jvm.Cond.castable "java/lang/ArrayIndexOutOfBoundsException" "java/lang/ArrayIndexOutOfBoundsException") ∈ lw_tbl := lw_at lw_m2 30 rfl
theorem q358 : (Jvm.Cond.selects "java/lang/ArrayIndexOutOfBoundsException" ({ cls := "java/lang/Throwable", name := "fillInStackTrace", desc := "(I)Ljava/lang/Throwable;" } : Jvm.MethodName) ({ cls := "java/lang/Throwable", name := "fillInStackTrace", desc := "(I)Ljava/lang/Throwable;" } : Jvm.MethodName)) ∈ lw_all := lw_g (lw_at lw_m2 39 rfl) rfl
theorem q1830 : (Jvm.Cond.castable "java/lang/ArrayIndexOutOfBoundsException" "java/lang/IndexOutOfBoundsException") ∈ lw_tbl := lw_at lw_m8 71 rfl
theorem in_J4 : ∀ w ∈ wsJ40, w ∈ lw_all := lw_in wsJ40 [336, 338, 340, 342, 344, 346] (by decide +kernel) (by decide +kernel)

/-! java/lang/String -/
set_option maxRecDepth 100000
def RJ5 : String := "java/lang/String"
def TJ5 : u_T := fun k => match k with
  | 0 => ("java/lang/String", "value", "[B", true)
  | _ => ("java/lang/String", "coder", "B", true)
def tyJ5 : Nat → FieldType := fun k => match k with
  | 0 => .array .byte
  | _ => .byte
abbrev wsJ50 : List Cond := u_ws RJ5 TJ5 2
theorem nmJ5 : ∀ a, a < 2 → ∀ b, b < 2 → a ≠ b → (TJ5 a).2.1 ≠ (TJ5 b).2.1 := by decide +kernel
theorem tyJ5_ok : ∀ k, k < 2 → parseFieldDescriptor (TJ5 k).2.2.1 = some (tyJ5 k) := by decide +kernel
abbrev cJ5_length : ByteArray := prog_30_method_54_code
def yJ5_length : MethodName := ⟨RJ5, "length", "()I"⟩
def dkwJ5_length_0 : List UInt8 := [42, 180, 0, 9, 190, 42, 182, 1, 79, 122, 172]
abbrev dktJ5_length_0 : List UInt8 := dkwJ5_length_0 ++ []
theorem dksJ5_length_0 : cJ5_length.data.toList.drop 0 = dktJ5_length_0 := by decide +kernel
theorem dJ5_length_0 : decode cJ5_length 0 = .ok (.aload_n 0, 1) := dk_42 (dk_at dksJ5_length_0 0 rfl rfl)
theorem dJ5_length_1 : decode cJ5_length 1 = .ok (.getfield 9, 3) := dk_180 0 9 (dk_at dksJ5_length_0 1 rfl rfl)
theorem dJ5_length_4 : decode cJ5_length 4 = .ok (.arraylength, 1) := dk_190 (dk_at dksJ5_length_0 4 rfl rfl)
theorem dJ5_length_5 : decode cJ5_length 5 = .ok (.aload_n 0, 1) := dk_42 (dk_at dksJ5_length_0 5 rfl rfl)
theorem dJ5_length_6 : decode cJ5_length 6 = .ok (.invokevirtual 335, 3) := dk_182 1 79 (dk_at dksJ5_length_0 6 rfl rfl)
theorem dJ5_length_9 : decode cJ5_length 9 = .ok (.ishr, 1) := dk_122 (dk_at dksJ5_length_0 9 rfl rfl)
theorem dJ5_length_10 : decode cJ5_length 10 = .ok (.ireturn, 1) := dk_172 (dk_at dksJ5_length_0 10 rfl rfl)
abbrev cJ5_coder : ByteArray := prog_30_method_152_code
def yJ5_coder : MethodName := ⟨RJ5, "coder", "()B"⟩
def dkwJ5_coder_0 : List UInt8 := [178, 0, 38, 153, 0, 10, 42, 180, 0, 15, 167, 0, 4, 4, 172]
abbrev dktJ5_coder_0 : List UInt8 := dkwJ5_coder_0 ++ []
theorem dksJ5_coder_0 : cJ5_coder.data.toList.drop 0 = dktJ5_coder_0 := by decide +kernel
theorem dJ5_coder_0 : decode cJ5_coder 0 = .ok (.getstatic 38, 3) := dk_178 0 38 (dk_at dksJ5_coder_0 0 rfl rfl)
theorem dJ5_coder_3 : decode cJ5_coder 3 = .ok (.ifCond .eq 10, 3) := dk_153 0 10 (dk_at dksJ5_coder_0 3 rfl rfl)
theorem dJ5_coder_6 : decode cJ5_coder 6 = .ok (.aload_n 0, 1) := dk_42 (dk_at dksJ5_coder_0 6 rfl rfl)
theorem dJ5_coder_7 : decode cJ5_coder 7 = .ok (.getfield 15, 3) := dk_180 0 15 (dk_at dksJ5_coder_0 7 rfl rfl)
theorem dJ5_coder_10 : decode cJ5_coder 10 = .ok (.goto 4, 3) := dk_167 0 4 (dk_at dksJ5_coder_0 10 rfl rfl)
theorem dJ5_coder_13 : decode cJ5_coder 13 = .ok (.iconst 1, 1) := dk_4 (dk_at dksJ5_coder_0 13 rfl rfl)
theorem dJ5_coder_14 : decode cJ5_coder 14 = .ok (.ireturn, 1) := dk_172 (dk_at dksJ5_coder_0 14 rfl rfl)
abbrev cJ5_charAt : ByteArray := prog_30_method_56_code
def yJ5_charAt : MethodName := ⟨RJ5, "charAt", "(I)C"⟩
def dkwJ5_charAt_1 : List UInt8 := [172]
abbrev dktJ5_charAt_1 : List UInt8 := dkwJ5_charAt_1 ++ []
def dkwJ5_charAt_0 : List UInt8 := [42, 182, 1, 236, 153, 0, 12, 42, 180, 0, 9, 27, 184, 1, 239, 172, 42, 180, 0, 9, 27, 184, 1, 242]
abbrev dktJ5_charAt_0 : List UInt8 := dkwJ5_charAt_0 ++ dktJ5_charAt_1
theorem dksJ5_charAt_0 : cJ5_charAt.data.toList.drop 0 = dktJ5_charAt_0 := by decide +kernel
theorem dksJ5_charAt_1 : cJ5_charAt.data.toList.drop 24 = dktJ5_charAt_1 := dk_seg dksJ5_charAt_0 24 rfl rfl
theorem dJ5_charAt_0 : decode cJ5_charAt 0 = .ok (.aload_n 0, 1) := dk_42 (dk_at dksJ5_charAt_0 0 rfl rfl)
theorem dJ5_charAt_1 : decode cJ5_charAt 1 = .ok (.invokevirtual 492, 3) := dk_182 1 236 (dk_at dksJ5_charAt_0 1 rfl rfl)
theorem dJ5_charAt_4 : decode cJ5_charAt 4 = .ok (.ifCond .eq 12, 3) := dk_153 0 12 (dk_at dksJ5_charAt_0 4 rfl rfl)
theorem dJ5_charAt_7 : decode cJ5_charAt 7 = .ok (.aload_n 0, 1) := dk_42 (dk_at dksJ5_charAt_0 7 rfl rfl)
theorem dJ5_charAt_8 : decode cJ5_charAt 8 = .ok (.getfield 9, 3) := dk_180 0 9 (dk_at dksJ5_charAt_0 8 rfl rfl)
theorem dJ5_charAt_11 : decode cJ5_charAt 11 = .ok (.iload_n 1, 1) := dk_27 (dk_at dksJ5_charAt_0 11 rfl rfl)
theorem dJ5_charAt_12 : decode cJ5_charAt 12 = .ok (.invokestatic 495, 3) := dk_184 1 239 (dk_at dksJ5_charAt_0 12 rfl rfl)
theorem dJ5_charAt_15 : decode cJ5_charAt 15 = .ok (.ireturn, 1) := dk_172 (dk_at dksJ5_charAt_0 15 rfl rfl)
theorem dJ5_charAt_16 : decode cJ5_charAt 16 = .ok (.aload_n 0, 1) := dk_42 (dk_at dksJ5_charAt_0 16 rfl rfl)
theorem dJ5_charAt_17 : decode cJ5_charAt 17 = .ok (.getfield 9, 3) := dk_180 0 9 (dk_at dksJ5_charAt_0 17 rfl rfl)
theorem dJ5_charAt_20 : decode cJ5_charAt 20 = .ok (.iload_n 1, 1) := dk_27 (dk_at dksJ5_charAt_0 20 rfl rfl)
theorem dJ5_charAt_21 : decode cJ5_charAt 21 = .ok (.invokestatic 498, 3) := dk_184 1 242 (dk_at dksJ5_charAt_0 21 rfl rfl)
theorem dJ5_charAt_24 : decode cJ5_charAt 24 = .ok (.ireturn, 1) := dk_172 (dk_at dksJ5_charAt_1 0 rfl rfl)
abbrev cJ5_isLatin1 : ByteArray := prog_30_method_154_code
def yJ5_isLatin1 : MethodName := ⟨RJ5, "isLatin1", "()Z"⟩
def dkwJ5_isLatin1_0 : List UInt8 := [178, 0, 38, 153, 0, 14, 42, 180, 0, 15, 154, 0, 7, 4, 167, 0, 4, 3, 172]
abbrev dktJ5_isLatin1_0 : List UInt8 := dkwJ5_isLatin1_0 ++ []
theorem dksJ5_isLatin1_0 : cJ5_isLatin1.data.toList.drop 0 = dktJ5_isLatin1_0 := by decide +kernel
theorem dJ5_isLatin1_0 : decode cJ5_isLatin1 0 = .ok (.getstatic 38, 3) := dk_178 0 38 (dk_at dksJ5_isLatin1_0 0 rfl rfl)
theorem dJ5_isLatin1_3 : decode cJ5_isLatin1 3 = .ok (.ifCond .eq 14, 3) := dk_153 0 14 (dk_at dksJ5_isLatin1_0 3 rfl rfl)
theorem dJ5_isLatin1_6 : decode cJ5_isLatin1 6 = .ok (.aload_n 0, 1) := dk_42 (dk_at dksJ5_isLatin1_0 6 rfl rfl)
theorem dJ5_isLatin1_7 : decode cJ5_isLatin1 7 = .ok (.getfield 15, 3) := dk_180 0 15 (dk_at dksJ5_isLatin1_0 7 rfl rfl)
theorem dJ5_isLatin1_10 : decode cJ5_isLatin1 10 = .ok (.ifCond .ne 7, 3) := dk_154 0 7 (dk_at dksJ5_isLatin1_0 10 rfl rfl)
theorem dJ5_isLatin1_13 : decode cJ5_isLatin1 13 = .ok (.iconst 1, 1) := dk_4 (dk_at dksJ5_isLatin1_0 13 rfl rfl)
theorem dJ5_isLatin1_14 : decode cJ5_isLatin1 14 = .ok (.goto 4, 3) := dk_167 0 4 (dk_at dksJ5_isLatin1_0 14 rfl rfl)
theorem dJ5_isLatin1_17 : decode cJ5_isLatin1 17 = .ok (.iconst 0, 1) := dk_3 (dk_at dksJ5_isLatin1_0 17 rfl rfl)
theorem dJ5_isLatin1_18 : decode cJ5_isLatin1 18 = .ok (.ireturn, 1) := dk_172 (dk_at dksJ5_isLatin1_0 18 rfl rfl)
abbrev cJ5_checkIndex : ByteArray := prog_30_method_155_code
def yJ5_checkIndex : MethodName := ⟨RJ5, "checkIndex", "(II)V"⟩
def dkwJ5_checkIndex_0 : List UInt8 := [26, 27, 178, 4, 29, 184, 4, 35, 87, 177]
abbrev dktJ5_checkIndex_0 : List UInt8 := dkwJ5_checkIndex_0 ++ []
theorem dksJ5_checkIndex_0 : cJ5_checkIndex.data.toList.drop 0 = dktJ5_checkIndex_0 := by decide +kernel
theorem dJ5_checkIndex_0 : decode cJ5_checkIndex 0 = .ok (.iload_n 0, 1) := dk_26 (dk_at dksJ5_checkIndex_0 0 rfl rfl)
theorem dJ5_checkIndex_1 : decode cJ5_checkIndex 1 = .ok (.iload_n 1, 1) := dk_27 (dk_at dksJ5_checkIndex_0 1 rfl rfl)
theorem dJ5_checkIndex_2 : decode cJ5_checkIndex 2 = .ok (.getstatic 1053, 3) := dk_178 4 29 (dk_at dksJ5_checkIndex_0 2 rfl rfl)
theorem dJ5_checkIndex_5 : decode cJ5_checkIndex 5 = .ok (.invokestatic 1059, 3) := dk_184 4 35 (dk_at dksJ5_checkIndex_0 5 rfl rfl)
theorem dJ5_checkIndex_8 : decode cJ5_checkIndex 8 = .ok (.pop, 1) := dk_87 (dk_at dksJ5_checkIndex_0 8 rfl rfl)
theorem dJ5_checkIndex_9 : decode cJ5_checkIndex 9 = .ok (.return_, 1) := dk_177 (dk_at dksJ5_checkIndex_0 9 rfl rfl)
theorem q91 : (Jvm.Cond.initialized "java/lang/String") ∈ lw_all := lw_g (lw_at lw_m1 12 rfl) rfl
theorem q368 : (Jvm.Cond.instantiable "java/lang/String" (4 : Nat)) ∈ lw_all := lw_g (lw_at lw_m2 49 rfl) rfl
theorem q370 : (Jvm.Cond.laysFinal "java/lang/String" "java/lang/String" "value" "[B") ∈ lw_all := lw_g (lw_at lw_m2 51 rfl) rfl
theorem q371 : (Jvm.Cond.soleField "java/lang/String" "value") ∈ lw_all := lw_g (lw_at lw_m2 52 rfl) rfl
theorem q372 : (Jvm.Cond.laysFinal "java/lang/String" "java/lang/String" "coder" "B") ∈ lw_all := lw_g (lw_at lw_m2 53 rfl) rfl
theorem q373 : (Jvm.Cond.soleField "java/lang/String" "coder") ∈ lw_all := lw_g (lw_at lw_m2 54 rfl) rfl
theorem q870 : (Jvm.Cond.instanceMethod ({ cls := "java/lang/String", name := "length", desc := "()I" } : Jvm.MethodName)) ∈ lw_all := lw_g (lw_at lw_m4 71 rfl) rfl
theorem q871 : (Jvm.Cond.selects "java/lang/String" ({ cls := "java/lang/String", name := "length", desc := "()I" } : Jvm.MethodName) ({ cls := "java/lang/String", name := "length", desc := "()I" } : Jvm.MethodName)) ∈ lw_all := lw_g (lw_at lw_m4 72 rfl) rfl
theorem q872 : (Jvm.Cond.code ({ cls := "java/lang/String", name := "length", desc := "()I" } : Jvm.MethodName) prog_30_method_54_code (1 : Nat) (Option.some Jvm.ClassFile.FieldType.int)) ∈ lw_all := lw_g (lw_at lw_m4 73 rfl) rfl
theorem q873 : (Jvm.Cond.methodLink "java/lang/String" (335 : Nat) ({ cls := "java/lang/String", name := "coder", desc := "()B" } : Jvm.MethodName)) ∈ lw_all := lw_g (lw_at lw_m4 74 rfl) rfl
theorem q874 : (Jvm.Cond.instanceMethod ({ cls := "java/lang/String", name := "coder", desc := "()B" } : Jvm.MethodName)) ∈ lw_all := lw_g (lw_at lw_m4 75 rfl) rfl
theorem q875 : (Jvm.Cond.selects "java/lang/String" ({ cls := "java/lang/String", name := "coder", desc := "()B" } : Jvm.MethodName) ({ cls := "java/lang/String", name := "coder", desc := "()B" } : Jvm.MethodName)) ∈ lw_all := lw_g (lw_at lw_m4 76 rfl) rfl
theorem q876 : (Jvm.Cond.code ({ cls := "java/lang/String", name := "coder", desc := "()B" } : Jvm.MethodName) prog_30_method_152_code (1 : Nat) (Option.some Jvm.ClassFile.FieldType.byte)) ∈ lw_all := lw_g (lw_at lw_m4 77 rfl) rfl
theorem q877 : (Jvm.Cond.fieldLink "java/lang/String" (38 : Nat) "java/lang/String" "COMPACT_STRINGS" "Z") ∈ lw_all := lw_g (lw_at lw_m4 78 rfl) rfl
theorem q878 : (Jvm.Cond.laysStatic "java/lang/String" "COMPACT_STRINGS" "Z") ∈ lw_tbl := lw_at lw_m4 79 rfl
theorem q880 : (Jvm.Cond.instanceMethod ({ cls := "java/lang/String", name := "charAt", desc := "(I)C" } : Jvm.MethodName)) ∈ lw_all := lw_g (lw_at lw_m4 81 rfl) rfl
theorem q881 : (Jvm.Cond.selects "java/lang/String" ({ cls := "java/lang/String", name := "charAt", desc := "(I)C" } : Jvm.MethodName) ({ cls := "java/lang/String", name := "charAt", desc := "(I)C" } : Jvm.MethodName)) ∈ lw_all := lw_g (lw_at lw_m4 82 rfl) rfl
theorem q882 : (Jvm.Cond.code ({ cls := "java/lang/String", name := "charAt", desc := "(I)C" } : Jvm.MethodName) prog_30_method_56_code (2 : Nat) (Option.some Jvm.ClassFile.FieldType.char)) ∈ lw_all := lw_g (lw_at lw_m4 83 rfl) rfl
theorem q883 : (Jvm.Cond.methodLink "java/lang/String" (492 : Nat) ({ cls := "java/lang/String", name := "isLatin1", desc := "()Z" } : Jvm.MethodName)) ∈ lw_all := lw_g (lw_at lw_m4 84 rfl) rfl
theorem q884 : (Jvm.Cond.instanceMethod ({ cls := "java/lang/String", name := "isLatin1", desc := "()Z" } : Jvm.MethodName)) ∈ lw_all := lw_g (lw_at lw_m4 85 rfl) rfl
theorem q885 : (Jvm.Cond.selects "java/lang/String" ({ cls := "java/lang/String", name := "isLatin1", desc := "()Z" } : Jvm.MethodName) ({ cls := "java/lang/String", name := "isLatin1", desc := "()Z" } : Jvm.MethodName)) ∈ lw_all := lw_g (lw_at lw_m4 86 rfl) rfl
theorem q886 : (Jvm.Cond.code ({ cls := "java/lang/String", name := "isLatin1", desc := "()Z" } : Jvm.MethodName) prog_30_method_154_code (1 : Nat) (Option.some Jvm.ClassFile.FieldType.boolean)) ∈ lw_all := lw_g (lw_at lw_m4 87 rfl) rfl
theorem q887 : (Jvm.Cond.methodLink "java/lang/String" (495 : Nat) ({ cls := "java/lang/StringLatin1", name := "charAt", desc := "([BI)C" } : Jvm.MethodName)) ∈ lw_all := lw_g (lw_at lw_m4 88 rfl) rfl
theorem q891 : (Jvm.Cond.static ({ cls := "java/lang/String", name := "checkIndex", desc := "(II)V" } : Jvm.MethodName)) ∈ lw_all := lw_g (lw_at lw_m4 92 rfl) rfl
theorem q892 : (Jvm.Cond.code ({ cls := "java/lang/String", name := "checkIndex", desc := "(II)V" } : Jvm.MethodName) prog_30_method_155_code (2 : Nat) (Option.none : Option Jvm.ClassFile.FieldType)) ∈ lw_all := lw_g (lw_at lw_m4 93 rfl) rfl
theorem q893 : (Jvm.Cond.fieldLink "java/lang/String" (1053 : Nat) "jdk/internal/util/Preconditions" "SIOOBE_FORMATTER" "Ljava/util/function/BiFunction;") ∈ lw_all := lw_g (lw_at lw_m4 94 rfl) rfl
theorem q895 : (Jvm.Cond.methodLink "java/lang/String" (1059 : Nat) ({ cls := "jdk/internal/util/Preconditions", name := "checkIndex", desc := "(IILjava/util/function/BiFunction;)I" } : Jvm.MethodName)) ∈ lw_all := lw_g (lw_at lw_m4 96 rfl) rfl
theorem q898 : (Jvm.Cond.methodLink "java/lang/String" (498 : Nat) ({ cls := "java/lang/StringUTF16", name := "charAt", desc := "([BI)C" } : Jvm.MethodName)) ∈ lw_all := lw_g (lw_at lw_m4 99 rfl) rfl
theorem q1844 : (Jvm.Cond.fieldLink "java/lang/String" (9 : Nat) "java/lang/String" "value" "[B") ∈ lw_all := lw_g (lw_at lw_m8 85 rfl) rfl
theorem q1845 : (Jvm.Cond.fieldLink "java/lang/String" (15 : Nat) "java/lang/String" "coder" "B") ∈ lw_all := lw_g (lw_at lw_m8 86 rfl) rfl
theorem in_J5 : ∀ w ∈ wsJ50, w ∈ lw_all := lw_in wsJ50 [370, 372] (by decide +kernel) (by decide +kernel)

/-! java/lang/NegativeArraySizeException -/
set_option maxRecDepth 100000
def RJ6 : String := "java/lang/NegativeArraySizeException"
def TJ6 : u_T := fun k => match k with
  | 0 => ("java/lang/Throwable", "backtrace", "Ljava/lang/Object;", false)
  | 1 => ("java/lang/Throwable", "detailMessage", "Ljava/lang/String;", false)
  | 2 => ("java/lang/Throwable", "cause", "Ljava/lang/Throwable;", false)
  | 3 => ("java/lang/Throwable", "stackTrace", "[Ljava/lang/StackTraceElement;", false)
  | 4 => ("java/lang/Throwable", "depth", "I", false)
  | _ => ("java/lang/Throwable", "suppressedExceptions", "Ljava/util/List;", false)
def tyJ6 : Nat → FieldType := fun k => match k with
  | 0 => .object "java/lang/Object"
  | 1 => .object "java/lang/String"
  | 2 => .object "java/lang/Throwable"
  | 3 => .array (.object "java/lang/StackTraceElement")
  | 4 => .int
  | _ => .object "java/util/List"
abbrev wsJ60 : List Cond := u_ws RJ6 TJ6 6
theorem nmJ6 : ∀ a, a < 6 → ∀ b, b < 6 → a ≠ b → (TJ6 a).2.1 ≠ (TJ6 b).2.1 := by decide +kernel
theorem tyJ6_ok : ∀ k, k < 6 → parseFieldDescriptor (TJ6 k).2.2.1 = some (tyJ6 k) := by decide +kernel
abbrev cJ6_init : ByteArray := prog_28_method_2_code
def yJ6_init : MethodName := ⟨RJ6, "<init>", "(Ljava/lang/String;)V"⟩
def dkwJ6_init_0 : List UInt8 := [42, 43, 183, 0, 7, 177]
abbrev dktJ6_init_0 : List UInt8 := dkwJ6_init_0 ++ []
theorem dksJ6_init_0 : cJ6_init.data.toList.drop 0 = dktJ6_init_0 := by decide +kernel
theorem dJ6_init_0 : decode cJ6_init 0 = .ok (.aload_n 0, 1) := dk_42 (dk_at dksJ6_init_0 0 rfl rfl)
theorem dJ6_init_1 : decode cJ6_init 1 = .ok (.aload_n 1, 1) := dk_43 (dk_at dksJ6_init_0 1 rfl rfl)
theorem dJ6_init_2 : decode cJ6_init 2 = .ok (.invokespecial 7, 3) := dk_183 0 7 (dk_at dksJ6_init_0 2 rfl rfl)
theorem dJ6_init_5 : decode cJ6_init 5 = .ok (.return_, 1) := dk_177 (dk_at dksJ6_init_0 5 rfl rfl)
theorem q93 : (Jvm.Cond.initialized "java/lang/NegativeArraySizeException") ∈ lw_all := lw_g (lw_at lw_m1 14 rfl) rfl
theorem q324 : (Jvm.Cond.selects "java/lang/NegativeArraySizeException" ({ cls := "java/lang/Throwable", name := "fillInStackTrace", desc := "()Ljava/lang/Throwable;" } : Jvm.MethodName) ({ cls := "java/lang/Throwable", name := "fillInStackTrace", desc := "()Ljava/lang/Throwable;" } : Jvm.MethodName)) ∈ lw_all := lw_g (lw_at lw_m2 5 rfl) rfl
theorem q408 : (Jvm.Cond.instantiable "java/lang/NegativeArraySizeException" (6 : Nat)) ∈ lw_all := lw_g (lw_at lw_m2 89 rfl) rfl
theorem q409 : (Jvm.Cond.instanceMethod ({ cls := "java/lang/NegativeArraySizeException", name := "<init>", desc := "(Ljava/lang/String;)V" } : Jvm.MethodName)) ∈ lw_all := lw_g (lw_at lw_m2 90 rfl) rfl
theorem q410 : (Jvm.Cond.code ({ cls := "java/lang/NegativeArraySizeException", name := "<init>", desc := "(Ljava/lang/String;)V" } : Jvm.MethodName) prog_28_method_2_code (2 : Nat) (Option.none : Option Jvm.ClassFile.FieldType)) ∈ lw_all := lw_g (lw_at lw_m2 91 rfl) rfl
theorem q411 : (Jvm.Cond.methodLink "java/lang/NegativeArraySizeException" (7 : Nat) ({ cls := "java/lang/RuntimeException", name := "<init>", desc := "(Ljava/lang/String;)V" } : Jvm.MethodName)) ∈ lw_all := lw_g (lw_at lw_m2 92 rfl) rfl
theorem q412 : (Jvm.Cond.lays "java/lang/NegativeArraySizeException" "java/lang/Throwable" "backtrace" "Ljava/lang/Object;") ∈ lw_all := lw_g (lw_at lw_m2 93 rfl) rfl
theorem q413 : (Jvm.Cond.lays "java/lang/NegativeArraySizeException" "java/lang/Throwable" "detailMessage" "Ljava/lang/String;") ∈ lw_all := lw_g (lw_at lw_m2 94 rfl) rfl
theorem q414 : (Jvm.Cond.lays "java/lang/NegativeArraySizeException" "java/lang/Throwable" "cause" "Ljava/lang/Throwable;") ∈ lw_all := lw_g (lw_at lw_m2 95 rfl) rfl
theorem q415 : (Jvm.Cond.lays "java/lang/NegativeArraySizeException" "java/lang/Throwable" "stackTrace" "[Ljava/lang/StackTraceElement;") ∈ lw_all := lw_g (lw_at lw_m2 96 rfl) rfl
theorem q416 : (Jvm.Cond.lays "java/lang/NegativeArraySizeException" "java/lang/Throwable" "depth" "I") ∈ lw_all := lw_g (lw_at lw_m2 97 rfl) rfl
theorem q417 : (Jvm.Cond.lays "java/lang/NegativeArraySizeException" "java/lang/Throwable" "suppressedExceptions" "Ljava/util/List;") ∈ lw_all := lw_g (lw_at lw_m2 98 rfl) rfl
theorem q418 : (Jvm.Cond.superclass "java/lang/NegativeArraySizeException" "java/lang/RuntimeException") ∈ lw_all := lw_g (lw_at lw_m2 99 rfl) rfl
theorem q419 : (Jvm.Cond.castable "java/lang/NegativeArraySizeException" "java/lang/NegativeArraySizeException") ∈ lw_tbl := lw_at lw_m2 100 rfl
theorem q420 : (Jvm.Cond.selects "java/lang/NegativeArraySizeException" ({ cls := "java/lang/Throwable", name := "fillInStackTrace", desc := "(I)Ljava/lang/Throwable;" } : Jvm.MethodName) ({ cls := "java/lang/Throwable", name := "fillInStackTrace", desc := "(I)Ljava/lang/Throwable;" } : Jvm.MethodName)) ∈ lw_all := lw_g (lw_at lw_m2 101 rfl) rfl
theorem in_J6 : ∀ w ∈ wsJ60, w ∈ lw_all := lw_in wsJ60 [412, 413, 414, 415, 416, 417] (by decide +kernel) (by decide +kernel)

/-! java/lang/ClassCastException -/
set_option maxRecDepth 100000
def RJ7 : String := "java/lang/ClassCastException"
def TJ7 : u_T := fun k => match k with
  | 0 => ("java/lang/Throwable", "backtrace", "Ljava/lang/Object;", false)
  | 1 => ("java/lang/Throwable", "detailMessage", "Ljava/lang/String;", false)
  | 2 => ("java/lang/Throwable", "cause", "Ljava/lang/Throwable;", false)
  | 3 => ("java/lang/Throwable", "stackTrace", "[Ljava/lang/StackTraceElement;", false)
  | 4 => ("java/lang/Throwable", "depth", "I", false)
  | _ => ("java/lang/Throwable", "suppressedExceptions", "Ljava/util/List;", false)
def tyJ7 : Nat → FieldType := fun k => match k with
  | 0 => .object "java/lang/Object"
  | 1 => .object "java/lang/String"
  | 2 => .object "java/lang/Throwable"
  | 3 => .array (.object "java/lang/StackTraceElement")
  | 4 => .int
  | _ => .object "java/util/List"
abbrev wsJ70 : List Cond := u_ws RJ7 TJ7 6
theorem nmJ7 : ∀ a, a < 6 → ∀ b, b < 6 → a ≠ b → (TJ7 a).2.1 ≠ (TJ7 b).2.1 := by decide +kernel
theorem tyJ7_ok : ∀ k, k < 6 → parseFieldDescriptor (TJ7 k).2.2.1 = some (tyJ7 k) := by decide +kernel
abbrev cJ7_init : ByteArray := prog_24_method_2_code
def yJ7_init : MethodName := ⟨RJ7, "<init>", "(Ljava/lang/String;)V"⟩
def dkwJ7_init_0 : List UInt8 := [42, 43, 183, 0, 7, 177]
abbrev dktJ7_init_0 : List UInt8 := dkwJ7_init_0 ++ []
theorem dksJ7_init_0 : cJ7_init.data.toList.drop 0 = dktJ7_init_0 := by decide +kernel
theorem dJ7_init_0 : decode cJ7_init 0 = .ok (.aload_n 0, 1) := dk_42 (dk_at dksJ7_init_0 0 rfl rfl)
theorem dJ7_init_1 : decode cJ7_init 1 = .ok (.aload_n 1, 1) := dk_43 (dk_at dksJ7_init_0 1 rfl rfl)
theorem dJ7_init_2 : decode cJ7_init 2 = .ok (.invokespecial 7, 3) := dk_183 0 7 (dk_at dksJ7_init_0 2 rfl rfl)
theorem dJ7_init_5 : decode cJ7_init 5 = .ok (.return_, 1) := dk_177 (dk_at dksJ7_init_0 5 rfl rfl)
theorem q99 : (Jvm.Cond.initialized "java/lang/ClassCastException") ∈ lw_all := lw_g (lw_at lw_m1 20 rfl) rfl
theorem q323 : (Jvm.Cond.selects "java/lang/ClassCastException" ({ cls := "java/lang/Throwable", name := "fillInStackTrace", desc := "()Ljava/lang/Throwable;" } : Jvm.MethodName) ({ cls := "java/lang/Throwable", name := "fillInStackTrace", desc := "()Ljava/lang/Throwable;" } : Jvm.MethodName)) ∈ lw_all := lw_g (lw_at lw_m2 4 rfl) rfl
theorem q479 : (Jvm.Cond.instantiable "java/lang/ClassCastException" (6 : Nat)) ∈ lw_all := lw_g (lw_at lw_m2 160 rfl) rfl
theorem q480 : (Jvm.Cond.instanceMethod ({ cls := "java/lang/ClassCastException", name := "<init>", desc := "(Ljava/lang/String;)V" } : Jvm.MethodName)) ∈ lw_all := lw_g (lw_at lw_m2 161 rfl) rfl
theorem q481 : (Jvm.Cond.code ({ cls := "java/lang/ClassCastException", name := "<init>", desc := "(Ljava/lang/String;)V" } : Jvm.MethodName) prog_24_method_2_code (2 : Nat) (Option.none : Option Jvm.ClassFile.FieldType)) ∈ lw_all := lw_g (lw_at lw_m2 162 rfl) rfl
theorem q482 : (Jvm.Cond.methodLink "java/lang/ClassCastException" (7 : Nat) ({ cls := "java/lang/RuntimeException", name := "<init>", desc := "(Ljava/lang/String;)V" } : Jvm.MethodName)) ∈ lw_all := lw_g (lw_at lw_m2 163 rfl) rfl
theorem q483 : (Jvm.Cond.lays "java/lang/ClassCastException" "java/lang/Throwable" "backtrace" "Ljava/lang/Object;") ∈ lw_all := lw_g (lw_at lw_m2 164 rfl) rfl
theorem q484 : (Jvm.Cond.lays "java/lang/ClassCastException" "java/lang/Throwable" "detailMessage" "Ljava/lang/String;") ∈ lw_all := lw_g (lw_at lw_m2 165 rfl) rfl
theorem q485 : (Jvm.Cond.lays "java/lang/ClassCastException" "java/lang/Throwable" "cause" "Ljava/lang/Throwable;") ∈ lw_all := lw_g (lw_at lw_m2 166 rfl) rfl
theorem q486 : (Jvm.Cond.lays "java/lang/ClassCastException" "java/lang/Throwable" "stackTrace" "[Ljava/lang/StackTraceElement;") ∈ lw_all := lw_g (lw_at lw_m2 167 rfl) rfl
theorem q487 : (Jvm.Cond.lays "java/lang/ClassCastException" "java/lang/Throwable" "depth" "I") ∈ lw_all := lw_g (lw_at lw_m2 168 rfl) rfl
theorem q488 : (Jvm.Cond.lays "java/lang/ClassCastException" "java/lang/Throwable" "suppressedExceptions" "Ljava/util/List;") ∈ lw_all := lw_g (lw_at lw_m2 169 rfl) rfl
theorem q489 : (Jvm.Cond.superclass "java/lang/ClassCastException" "java/lang/RuntimeException") ∈ lw_all := lw_g (lw_at lw_m2 170 rfl) rfl
theorem q490 : (Jvm.Cond.castable "java/lang/ClassCastException" "java/lang/ClassCastException") ∈ lw_tbl := lw_at lw_m2 171 rfl
theorem q491 : (Jvm.Cond.selects "java/lang/ClassCastException" ({ cls := "java/lang/Throwable", name := "fillInStackTrace", desc := "(I)Ljava/lang/Throwable;" } : Jvm.MethodName) ({ cls := "java/lang/Throwable", name := "fillInStackTrace", desc := "(I)Ljava/lang/Throwable;" } : Jvm.MethodName)) ∈ lw_all := lw_g (lw_at lw_m2 172 rfl) rfl
theorem in_J7 : ∀ w ∈ wsJ70, w ∈ lw_all := lw_in wsJ70 [483, 484, 485, 486, 487, 488] (by decide +kernel) (by decide +kernel)

/-! java/lang/Math -/
set_option maxRecDepth 100000
def RJ8 : String := "java/lang/Math"
abbrev cJ8_min : ByteArray := prog_27_method_69_code
def yJ8_min : MethodName := ⟨RJ8, "min", "(II)I"⟩
def dkwJ8_min_0 : List UInt8 := [26, 27, 163, 0, 7, 26, 167, 0, 4, 27, 172]
abbrev dktJ8_min_0 : List UInt8 := dkwJ8_min_0 ++ []
theorem dksJ8_min_0 : cJ8_min.data.toList.drop 0 = dktJ8_min_0 := by decide +kernel
theorem dJ8_min_0 : decode cJ8_min 0 = .ok (.iload_n 0, 1) := dk_26 (dk_at dksJ8_min_0 0 rfl rfl)
theorem dJ8_min_1 : decode cJ8_min 1 = .ok (.iload_n 1, 1) := dk_27 (dk_at dksJ8_min_0 1 rfl rfl)
theorem dJ8_min_2 : decode cJ8_min 2 = .ok (.if_icmp .gt 7, 3) := dk_163 0 7 (dk_at dksJ8_min_0 2 rfl rfl)
theorem dJ8_min_5 : decode cJ8_min 5 = .ok (.iload_n 0, 1) := dk_26 (dk_at dksJ8_min_0 5 rfl rfl)
theorem dJ8_min_6 : decode cJ8_min 6 = .ok (.goto 4, 3) := dk_167 0 4 (dk_at dksJ8_min_0 6 rfl rfl)
theorem dJ8_min_9 : decode cJ8_min 9 = .ok (.iload_n 1, 1) := dk_27 (dk_at dksJ8_min_0 9 rfl rfl)
theorem dJ8_min_10 : decode cJ8_min 10 = .ok (.ireturn, 1) := dk_172 (dk_at dksJ8_min_0 10 rfl rfl)
abbrev cJ8_max : ByteArray := prog_27_method_65_code
def yJ8_max : MethodName := ⟨RJ8, "max", "(II)I"⟩
def dkwJ8_max_0 : List UInt8 := [26, 27, 161, 0, 7, 26, 167, 0, 4, 27, 172]
abbrev dktJ8_max_0 : List UInt8 := dkwJ8_max_0 ++ []
theorem dksJ8_max_0 : cJ8_max.data.toList.drop 0 = dktJ8_max_0 := by decide +kernel
theorem dJ8_max_0 : decode cJ8_max 0 = .ok (.iload_n 0, 1) := dk_26 (dk_at dksJ8_max_0 0 rfl rfl)
theorem dJ8_max_1 : decode cJ8_max 1 = .ok (.iload_n 1, 1) := dk_27 (dk_at dksJ8_max_0 1 rfl rfl)
theorem dJ8_max_2 : decode cJ8_max 2 = .ok (.if_icmp .lt 7, 3) := dk_161 0 7 (dk_at dksJ8_max_0 2 rfl rfl)
theorem dJ8_max_5 : decode cJ8_max 5 = .ok (.iload_n 0, 1) := dk_26 (dk_at dksJ8_max_0 5 rfl rfl)
theorem dJ8_max_6 : decode cJ8_max 6 = .ok (.goto 4, 3) := dk_167 0 4 (dk_at dksJ8_max_0 6 rfl rfl)
theorem dJ8_max_9 : decode cJ8_max 9 = .ok (.iload_n 1, 1) := dk_27 (dk_at dksJ8_max_0 9 rfl rfl)
theorem dJ8_max_10 : decode cJ8_max 10 = .ok (.ireturn, 1) := dk_172 (dk_at dksJ8_max_0 10 rfl rfl)
abbrev cJ8_abs : ByteArray := prog_27_method_59_code
def yJ8_abs : MethodName := ⟨RJ8, "abs", "(I)I"⟩
def dkwJ8_abs_0 : List UInt8 := [26, 156, 0, 8, 26, 116, 167, 0, 4, 26, 172]
abbrev dktJ8_abs_0 : List UInt8 := dkwJ8_abs_0 ++ []
theorem dksJ8_abs_0 : cJ8_abs.data.toList.drop 0 = dktJ8_abs_0 := by decide +kernel
theorem dJ8_abs_0 : decode cJ8_abs 0 = .ok (.iload_n 0, 1) := dk_26 (dk_at dksJ8_abs_0 0 rfl rfl)
theorem dJ8_abs_1 : decode cJ8_abs 1 = .ok (.ifCond .ge 8, 3) := dk_156 0 8 (dk_at dksJ8_abs_0 1 rfl rfl)
theorem dJ8_abs_4 : decode cJ8_abs 4 = .ok (.iload_n 0, 1) := dk_26 (dk_at dksJ8_abs_0 4 rfl rfl)
theorem dJ8_abs_5 : decode cJ8_abs 5 = .ok (.ineg, 1) := dk_116 (dk_at dksJ8_abs_0 5 rfl rfl)
theorem dJ8_abs_6 : decode cJ8_abs 6 = .ok (.goto 4, 3) := dk_167 0 4 (dk_at dksJ8_abs_0 6 rfl rfl)
theorem dJ8_abs_9 : decode cJ8_abs 9 = .ok (.iload_n 0, 1) := dk_26 (dk_at dksJ8_abs_0 9 rfl rfl)
theorem dJ8_abs_10 : decode cJ8_abs 10 = .ok (.ireturn, 1) := dk_172 (dk_at dksJ8_abs_0 10 rfl rfl)
theorem q101 : (Jvm.Cond.initialized "java/lang/Math") ∈ lw_all := lw_g (lw_at lw_m1 22 rfl) rfl
theorem q623 : (Jvm.Cond.static ({ cls := "java/lang/Math", name := "min", desc := "(II)I" } : Jvm.MethodName)) ∈ lw_all := lw_g (lw_at lw_m3 64 rfl) rfl
theorem q624 : (Jvm.Cond.code ({ cls := "java/lang/Math", name := "min", desc := "(II)I" } : Jvm.MethodName) prog_27_method_69_code (2 : Nat) (Option.some Jvm.ClassFile.FieldType.int)) ∈ lw_all := lw_g (lw_at lw_m3 65 rfl) rfl
theorem q993 : (Jvm.Cond.static ({ cls := "java/lang/Math", name := "max", desc := "(II)I" } : Jvm.MethodName)) ∈ lw_all := lw_g (lw_at lw_m4 194 rfl) rfl
theorem q994 : (Jvm.Cond.code ({ cls := "java/lang/Math", name := "max", desc := "(II)I" } : Jvm.MethodName) prog_27_method_65_code (2 : Nat) (Option.some Jvm.ClassFile.FieldType.int)) ∈ lw_all := lw_g (lw_at lw_m4 195 rfl) rfl
theorem q1086 : (Jvm.Cond.static ({ cls := "java/lang/Math", name := "abs", desc := "(I)I" } : Jvm.MethodName)) ∈ lw_all := lw_g (lw_at lw_m5 47 rfl) rfl
theorem q1087 : (Jvm.Cond.code ({ cls := "java/lang/Math", name := "abs", desc := "(I)I" } : Jvm.MethodName) prog_27_method_59_code (1 : Nat) (Option.some Jvm.ClassFile.FieldType.int)) ∈ lw_all := lw_g (lw_at lw_m5 48 rfl) rfl

/-! java/lang/StringLatin1 -/
set_option maxRecDepth 100000
def RJ9 : String := "java/lang/StringLatin1"
abbrev cJ9_charAt : ByteArray := prog_31_method_2_code
def yJ9_charAt : MethodName := ⟨RJ9, "charAt", "([BI)C"⟩
def dkwJ9_charAt_0 : List UInt8 := [27, 42, 190, 184, 0, 9, 42, 27, 51, 17, 0, 255, 126, 146, 172]
abbrev dktJ9_charAt_0 : List UInt8 := dkwJ9_charAt_0 ++ []
theorem dksJ9_charAt_0 : cJ9_charAt.data.toList.drop 0 = dktJ9_charAt_0 := by decide +kernel
theorem dJ9_charAt_0 : decode cJ9_charAt 0 = .ok (.iload_n 1, 1) := dk_27 (dk_at dksJ9_charAt_0 0 rfl rfl)
theorem dJ9_charAt_1 : decode cJ9_charAt 1 = .ok (.aload_n 0, 1) := dk_42 (dk_at dksJ9_charAt_0 1 rfl rfl)
theorem dJ9_charAt_2 : decode cJ9_charAt 2 = .ok (.arraylength, 1) := dk_190 (dk_at dksJ9_charAt_0 2 rfl rfl)
theorem dJ9_charAt_3 : decode cJ9_charAt 3 = .ok (.invokestatic 9, 3) := dk_184 0 9 (dk_at dksJ9_charAt_0 3 rfl rfl)
theorem dJ9_charAt_6 : decode cJ9_charAt 6 = .ok (.aload_n 0, 1) := dk_42 (dk_at dksJ9_charAt_0 6 rfl rfl)
theorem dJ9_charAt_7 : decode cJ9_charAt 7 = .ok (.iload_n 1, 1) := dk_27 (dk_at dksJ9_charAt_0 7 rfl rfl)
theorem dJ9_charAt_8 : decode cJ9_charAt 8 = .ok (.baload, 1) := dk_51 (dk_at dksJ9_charAt_0 8 rfl rfl)
theorem dJ9_charAt_9 : decode cJ9_charAt 9 = .ok (.sipush 255, 3) := dk_17 0 255 (dk_at dksJ9_charAt_0 9 rfl rfl)
theorem dJ9_charAt_12 : decode cJ9_charAt 12 = .ok (.iand, 1) := dk_126 (dk_at dksJ9_charAt_0 12 rfl rfl)
theorem dJ9_charAt_13 : decode cJ9_charAt 13 = .ok (.i2c, 1) := dk_146 (dk_at dksJ9_charAt_0 13 rfl rfl)
theorem dJ9_charAt_14 : decode cJ9_charAt 14 = .ok (.ireturn, 1) := dk_172 (dk_at dksJ9_charAt_0 14 rfl rfl)
theorem q110 : (Jvm.Cond.initialized "java/lang/StringLatin1") ∈ lw_all := lw_g (lw_at lw_m1 31 rfl) rfl
theorem q888 : (Jvm.Cond.static ({ cls := "java/lang/StringLatin1", name := "charAt", desc := "([BI)C" } : Jvm.MethodName)) ∈ lw_all := lw_g (lw_at lw_m4 89 rfl) rfl
theorem q889 : (Jvm.Cond.code ({ cls := "java/lang/StringLatin1", name := "charAt", desc := "([BI)C" } : Jvm.MethodName) prog_31_method_2_code (2 : Nat) (Option.some Jvm.ClassFile.FieldType.char)) ∈ lw_all := lw_g (lw_at lw_m4 90 rfl) rfl
theorem q890 : (Jvm.Cond.methodLink "java/lang/StringLatin1" (9 : Nat) ({ cls := "java/lang/String", name := "checkIndex", desc := "(II)V" } : Jvm.MethodName)) ∈ lw_all := lw_g (lw_at lw_m4 91 rfl) rfl

/-! HamsterWeekends$Trace -/
set_option maxRecDepth 100000
def RX1 : String := "HamsterWeekends$Trace"
def TX1 : u_T := fun k => match k with
  | 0 => ("HamsterWeekends$Trace", "bodies", "[I", true)
  | _ => ("HamsterWeekends$Trace", "many", "I", false)
def tyX1 : Nat → FieldType := fun k => match k with
  | 0 => .array .int
  | _ => .int
abbrev wsX10 : List Cond := u_ws RX1 TX1 2
theorem nmX1 : ∀ a, a < 2 → ∀ b, b < 2 → a ≠ b → (TX1 a).2.1 ≠ (TX1 b).2.1 := by decide +kernel
theorem tyX1_ok : ∀ k, k < 2 → parseFieldDescriptor (TX1 k).2.2.1 = some (tyX1 k) := by decide +kernel
abbrev cX1_init : ByteArray := prog_20_method_1_code
def yX1_init : MethodName := ⟨RX1, "<init>", "()V"⟩
def dkwX1_init_0 : List UInt8 := [42, 183, 0, 3, 42, 16, 20, 188, 10, 181, 0, 9, 177]
abbrev dktX1_init_0 : List UInt8 := dkwX1_init_0 ++ []
theorem dksX1_init_0 : cX1_init.data.toList.drop 0 = dktX1_init_0 := by decide +kernel
theorem dX1_init_0 : decode cX1_init 0 = .ok (.aload_n 0, 1) := dk_42 (dk_at dksX1_init_0 0 rfl rfl)
theorem dX1_init_1 : decode cX1_init 1 = .ok (.invokespecial 3, 3) := dk_183 0 3 (dk_at dksX1_init_0 1 rfl rfl)
theorem dX1_init_4 : decode cX1_init 4 = .ok (.aload_n 0, 1) := dk_42 (dk_at dksX1_init_0 4 rfl rfl)
theorem dX1_init_5 : decode cX1_init 5 = .ok (.bipush 20, 2) := dk_16 20 (dk_at dksX1_init_0 5 rfl rfl)
theorem dX1_init_7 : decode cX1_init 7 = .ok (.newarray .int, 2) := dk_188_10 (dk_at dksX1_init_0 7 rfl rfl)
theorem dX1_init_9 : decode cX1_init 9 = .ok (.putfield 9, 3) := dk_181 0 9 (dk_at dksX1_init_0 9 rfl rfl)
theorem dX1_init_12 : decode cX1_init 12 = .ok (.return_, 1) := dk_177 (dk_at dksX1_init_0 12 rfl rfl)
abbrev cX1_runs : ByteArray := prog_20_method_2_code
def yX1_runs : MethodName := ⟨RX1, "runs", "(I)V"⟩
def dkwX1_runs_1 : List UInt8 := [4, 96, 181, 0, 15, 177]
abbrev dktX1_runs_1 : List UInt8 := dkwX1_runs_1 ++ []
def dkwX1_runs_0 : List UInt8 := [42, 180, 0, 15, 16, 20, 162, 0, 13, 42, 180, 0, 9, 42, 180, 0, 15, 27, 79, 42, 89, 180, 0, 15]
abbrev dktX1_runs_0 : List UInt8 := dkwX1_runs_0 ++ dktX1_runs_1
theorem dksX1_runs_0 : cX1_runs.data.toList.drop 0 = dktX1_runs_0 := by decide +kernel
theorem dksX1_runs_1 : cX1_runs.data.toList.drop 24 = dktX1_runs_1 := dk_seg dksX1_runs_0 24 rfl rfl
theorem dX1_runs_0 : decode cX1_runs 0 = .ok (.aload_n 0, 1) := dk_42 (dk_at dksX1_runs_0 0 rfl rfl)
theorem dX1_runs_1 : decode cX1_runs 1 = .ok (.getfield 15, 3) := dk_180 0 15 (dk_at dksX1_runs_0 1 rfl rfl)
theorem dX1_runs_4 : decode cX1_runs 4 = .ok (.bipush 20, 2) := dk_16 20 (dk_at dksX1_runs_0 4 rfl rfl)
theorem dX1_runs_6 : decode cX1_runs 6 = .ok (.if_icmp .ge 13, 3) := dk_162 0 13 (dk_at dksX1_runs_0 6 rfl rfl)
theorem dX1_runs_9 : decode cX1_runs 9 = .ok (.aload_n 0, 1) := dk_42 (dk_at dksX1_runs_0 9 rfl rfl)
theorem dX1_runs_10 : decode cX1_runs 10 = .ok (.getfield 9, 3) := dk_180 0 9 (dk_at dksX1_runs_0 10 rfl rfl)
theorem dX1_runs_13 : decode cX1_runs 13 = .ok (.aload_n 0, 1) := dk_42 (dk_at dksX1_runs_0 13 rfl rfl)
theorem dX1_runs_14 : decode cX1_runs 14 = .ok (.getfield 15, 3) := dk_180 0 15 (dk_at dksX1_runs_0 14 rfl rfl)
theorem dX1_runs_17 : decode cX1_runs 17 = .ok (.iload_n 1, 1) := dk_27 (dk_at dksX1_runs_0 17 rfl rfl)
theorem dX1_runs_18 : decode cX1_runs 18 = .ok (.iastore, 1) := dk_79 (dk_at dksX1_runs_0 18 rfl rfl)
theorem dX1_runs_19 : decode cX1_runs 19 = .ok (.aload_n 0, 1) := dk_42 (dk_at dksX1_runs_0 19 rfl rfl)
theorem dX1_runs_20 : decode cX1_runs 20 = .ok (.dup, 1) := dk_89 (dk_at dksX1_runs_0 20 rfl rfl)
theorem dX1_runs_21 : decode cX1_runs 21 = .ok (.getfield 15, 3) := dk_180 0 15 (dk_at dksX1_runs_0 21 rfl rfl)
theorem dX1_runs_24 : decode cX1_runs 24 = .ok (.iconst 1, 1) := dk_4 (dk_at dksX1_runs_1 0 rfl rfl)
theorem dX1_runs_25 : decode cX1_runs 25 = .ok (.iadd, 1) := dk_96 (dk_at dksX1_runs_1 1 rfl rfl)
theorem dX1_runs_26 : decode cX1_runs 26 = .ok (.putfield 15, 3) := dk_181 0 15 (dk_at dksX1_runs_1 2 rfl rfl)
theorem dX1_runs_29 : decode cX1_runs 29 = .ok (.return_, 1) := dk_177 (dk_at dksX1_runs_1 5 rfl rfl)
theorem q81 : (Jvm.Cond.initialized "HamsterWeekends$Trace") ∈ lw_all := lw_g (lw_at lw_m1 2 rfl) rfl
theorem q126 : (Jvm.Cond.instantiable "HamsterWeekends$Trace" (2 : Nat)) ∈ lw_all := lw_g (lw_at lw_m1 47 rfl) rfl
theorem q128 : (Jvm.Cond.instanceMethod ({ cls := "HamsterWeekends$Trace", name := "<init>", desc := "()V" } : Jvm.MethodName)) ∈ lw_all := lw_g (lw_at lw_m1 49 rfl) rfl
theorem q129 : (Jvm.Cond.code ({ cls := "HamsterWeekends$Trace", name := "<init>", desc := "()V" } : Jvm.MethodName) prog_20_method_1_code (1 : Nat) (Option.none : Option Jvm.ClassFile.FieldType)) ∈ lw_all := lw_g (lw_at lw_m1 50 rfl) rfl
theorem q130 : (Jvm.Cond.methodLink "HamsterWeekends$Trace" (3 : Nat) ({ cls := "java/lang/Object", name := "<init>", desc := "()V" } : Jvm.MethodName)) ∈ lw_all := lw_g (lw_at lw_m1 51 rfl) rfl
theorem q131 : (Jvm.Cond.fieldLink "HamsterWeekends$Trace" (9 : Nat) "HamsterWeekends$Trace" "bodies" "[I") ∈ lw_all := lw_g (lw_at lw_m1 52 rfl) rfl
theorem q133 : (Jvm.Cond.fieldLink "HamsterWeekends$Trace" (15 : Nat) "HamsterWeekends$Trace" "many" "I") ∈ lw_all := lw_g (lw_at lw_m1 54 rfl) rfl
theorem q135 : (Jvm.Cond.laysFinal "HamsterWeekends$Trace" "HamsterWeekends$Trace" "bodies" "[I") ∈ lw_all := lw_g (lw_at lw_m1 56 rfl) rfl
theorem q136 : (Jvm.Cond.soleField "HamsterWeekends$Trace" "bodies") ∈ lw_all := lw_g (lw_at lw_m1 57 rfl) rfl
theorem q137 : (Jvm.Cond.lays "HamsterWeekends$Trace" "HamsterWeekends$Trace" "many" "I") ∈ lw_all := lw_g (lw_at lw_m1 58 rfl) rfl
theorem q138 : (Jvm.Cond.soleField "HamsterWeekends$Trace" "many") ∈ lw_all := lw_g (lw_at lw_m1 59 rfl) rfl
theorem q139 : (Jvm.Cond.superclass "HamsterWeekends$Trace" "java/lang/Object") ∈ lw_all := lw_g (lw_at lw_m1 60 rfl) rfl
theorem q1231 : (Jvm.Cond.instanceMethod ({ cls := "HamsterWeekends$Trace", name := "runs", desc := "(I)V" } : Jvm.MethodName)) ∈ lw_all := lw_g (lw_at lw_m5 192 rfl) rfl
theorem q1232 : (Jvm.Cond.selects "HamsterWeekends$Trace" ({ cls := "HamsterWeekends$Trace", name := "runs", desc := "(I)V" } : Jvm.MethodName) ({ cls := "HamsterWeekends$Trace", name := "runs", desc := "(I)V" } : Jvm.MethodName)) ∈ lw_all := lw_g (lw_at lw_m5 193 rfl) rfl
theorem q1233 : (Jvm.Cond.code ({ cls := "HamsterWeekends$Trace", name := "runs", desc := "(I)V" } : Jvm.MethodName) prog_20_method_2_code (2 : Nat) (Option.none : Option Jvm.ClassFile.FieldType)) ∈ lw_all := lw_g (lw_at lw_m5 194 rfl) rfl
theorem in_X1 : ∀ w ∈ wsX10, w ∈ lw_all := lw_in wsX10 [135, 137] (by decide +kernel) (by decide +kernel)

/-! HamsterWeekends$Ints -/
set_option maxRecDepth 100000
def RX10 : String := "HamsterWeekends$Ints"
def TX10 : u_T := fun k => match k with
  | _ => ("HamsterWeekends$Ints", "e", "[I", true)
def tyX10 : Nat → FieldType := fun k => match k with
  | _ => .array .int
abbrev wsX100 : List Cond := u_ws RX10 TX10 1
theorem nmX10 : ∀ a, a < 1 → ∀ b, b < 1 → a ≠ b → (TX10 a).2.1 ≠ (TX10 b).2.1 := by decide +kernel
theorem tyX10_ok : ∀ k, k < 1 → parseFieldDescriptor (TX10 k).2.2.1 = some (tyX10 k) := by decide +kernel
abbrev cX10_init : ByteArray := prog_10_method_1_code
def yX10_init : MethodName := ⟨RX10, "<init>", "(I)V"⟩
def dkwX10_init_0 : List UInt8 := [42, 183, 0, 1, 42, 27, 188, 10, 181, 0, 7, 177]
abbrev dktX10_init_0 : List UInt8 := dkwX10_init_0 ++ []
theorem dksX10_init_0 : cX10_init.data.toList.drop 0 = dktX10_init_0 := by decide +kernel
theorem dX10_init_0 : decode cX10_init 0 = .ok (.aload_n 0, 1) := dk_42 (dk_at dksX10_init_0 0 rfl rfl)
theorem dX10_init_1 : decode cX10_init 1 = .ok (.invokespecial 1, 3) := dk_183 0 1 (dk_at dksX10_init_0 1 rfl rfl)
theorem dX10_init_4 : decode cX10_init 4 = .ok (.aload_n 0, 1) := dk_42 (dk_at dksX10_init_0 4 rfl rfl)
theorem dX10_init_5 : decode cX10_init 5 = .ok (.iload_n 1, 1) := dk_27 (dk_at dksX10_init_0 5 rfl rfl)
theorem dX10_init_6 : decode cX10_init 6 = .ok (.newarray .int, 2) := dk_188_10 (dk_at dksX10_init_0 6 rfl rfl)
theorem dX10_init_8 : decode cX10_init 8 = .ok (.putfield 7, 3) := dk_181 0 7 (dk_at dksX10_init_0 8 rfl rfl)
theorem dX10_init_11 : decode cX10_init 11 = .ok (.return_, 1) := dk_177 (dk_at dksX10_init_0 11 rfl rfl)
abbrev cX10_put : ByteArray := prog_10_method_4_code
def yX10_put : MethodName := ⟨RX10, "put", "(IJ)V"⟩
def dkwX10_put_0 : List UInt8 := [42, 180, 0, 7, 27, 32, 136, 79, 177]
abbrev dktX10_put_0 : List UInt8 := dkwX10_put_0 ++ []
theorem dksX10_put_0 : cX10_put.data.toList.drop 0 = dktX10_put_0 := by decide +kernel
theorem dX10_put_0 : decode cX10_put 0 = .ok (.aload_n 0, 1) := dk_42 (dk_at dksX10_put_0 0 rfl rfl)
theorem dX10_put_1 : decode cX10_put 1 = .ok (.getfield 7, 3) := dk_180 0 7 (dk_at dksX10_put_0 1 rfl rfl)
theorem dX10_put_4 : decode cX10_put 4 = .ok (.iload_n 1, 1) := dk_27 (dk_at dksX10_put_0 4 rfl rfl)
theorem dX10_put_5 : decode cX10_put 5 = .ok (.lload_n 2, 1) := dk_32 (dk_at dksX10_put_0 5 rfl rfl)
theorem dX10_put_6 : decode cX10_put 6 = .ok (.l2i, 1) := dk_136 (dk_at dksX10_put_0 6 rfl rfl)
theorem dX10_put_7 : decode cX10_put 7 = .ok (.iastore, 1) := dk_79 (dk_at dksX10_put_0 7 rfl rfl)
theorem dX10_put_8 : decode cX10_put 8 = .ok (.return_, 1) := dk_177 (dk_at dksX10_put_0 8 rfl rfl)
abbrev cX10_sort : ByteArray := prog_10_method_2_code
def yX10_sort : MethodName := ⟨RX10, "sort", "()I"⟩
theorem dX10_sort_0 : decode cX10_sort 0 = .ok (.iconst 2, 1) := by decide +kernel
theorem dX10_sort_1 : decode cX10_sort 1 = .ok (.ireturn, 1) := by decide +kernel
abbrev cX10_held : ByteArray := prog_10_method_8_code
def yX10_held : MethodName := ⟨RX10, "held", "()Ljava/lang/Object;"⟩
theorem dX10_held_0 : decode cX10_held 0 = .ok (.aload_n 0, 1) := by decide +kernel
theorem dX10_held_1 : decode cX10_held 1 = .ok (.getfield 7, 3) := by decide +kernel
theorem dX10_held_4 : decode cX10_held 4 = .ok (.areturn, 1) := by decide +kernel
abbrev cX10_get : ByteArray := prog_10_method_5_code
def yX10_get : MethodName := ⟨RX10, "get", "(I)J"⟩
def dkwX10_get_0 : List UInt8 := [42, 180, 0, 7, 27, 46, 133, 173]
abbrev dktX10_get_0 : List UInt8 := dkwX10_get_0 ++ []
theorem dksX10_get_0 : cX10_get.data.toList.drop 0 = dktX10_get_0 := by decide +kernel
theorem dX10_get_0 : decode cX10_get 0 = .ok (.aload_n 0, 1) := dk_42 (dk_at dksX10_get_0 0 rfl rfl)
theorem dX10_get_1 : decode cX10_get 1 = .ok (.getfield 7, 3) := dk_180 0 7 (dk_at dksX10_get_0 1 rfl rfl)
theorem dX10_get_4 : decode cX10_get 4 = .ok (.iload_n 1, 1) := dk_27 (dk_at dksX10_get_0 4 rfl rfl)
theorem dX10_get_5 : decode cX10_get 5 = .ok (.iaload, 1) := dk_46 (dk_at dksX10_get_0 5 rfl rfl)
theorem dX10_get_6 : decode cX10_get 6 = .ok (.i2l, 1) := dk_133 (dk_at dksX10_get_0 6 rfl rfl)
theorem dX10_get_7 : decode cX10_get 7 = .ok (.lreturn, 1) := dk_173 (dk_at dksX10_get_0 7 rfl rfl)
abbrev cX10_length : ByteArray := prog_10_method_3_code
def yX10_length : MethodName := ⟨RX10, "length", "()I"⟩
def dkwX10_length_0 : List UInt8 := [42, 180, 0, 7, 190, 172]
abbrev dktX10_length_0 : List UInt8 := dkwX10_length_0 ++ []
theorem dksX10_length_0 : cX10_length.data.toList.drop 0 = dktX10_length_0 := by decide +kernel
theorem dX10_length_0 : decode cX10_length 0 = .ok (.aload_n 0, 1) := dk_42 (dk_at dksX10_length_0 0 rfl rfl)
theorem dX10_length_1 : decode cX10_length 1 = .ok (.getfield 7, 3) := dk_180 0 7 (dk_at dksX10_length_0 1 rfl rfl)
theorem dX10_length_4 : decode cX10_length 4 = .ok (.arraylength, 1) := dk_190 (dk_at dksX10_length_0 4 rfl rfl)
theorem dX10_length_5 : decode cX10_length 5 = .ok (.ireturn, 1) := dk_172 (dk_at dksX10_length_0 5 rfl rfl)
theorem q97 : (Jvm.Cond.initialized "HamsterWeekends$Ints") ∈ lw_all := lw_g (lw_at lw_m1 18 rfl) rfl
theorem q446 : (Jvm.Cond.instantiable "HamsterWeekends$Ints" (1 : Nat)) ∈ lw_all := lw_g (lw_at lw_m2 127 rfl) rfl
theorem q448 : (Jvm.Cond.instanceMethod ({ cls := "HamsterWeekends$Ints", name := "<init>", desc := "(I)V" } : Jvm.MethodName)) ∈ lw_all := lw_g (lw_at lw_m2 129 rfl) rfl
theorem q449 : (Jvm.Cond.code ({ cls := "HamsterWeekends$Ints", name := "<init>", desc := "(I)V" } : Jvm.MethodName) prog_10_method_1_code (2 : Nat) (Option.none : Option Jvm.ClassFile.FieldType)) ∈ lw_all := lw_g (lw_at lw_m2 130 rfl) rfl
theorem q450 : (Jvm.Cond.methodLink "HamsterWeekends$Ints" (1 : Nat) ({ cls := "HamsterWeekends$Row", name := "<init>", desc := "()V" } : Jvm.MethodName)) ∈ lw_all := lw_g (lw_at lw_m2 131 rfl) rfl
theorem q451 : (Jvm.Cond.fieldLink "HamsterWeekends$Ints" (7 : Nat) "HamsterWeekends$Ints" "e" "[I") ∈ lw_all := lw_g (lw_at lw_m2 132 rfl) rfl
theorem q452 : (Jvm.Cond.laysFinal "HamsterWeekends$Ints" "HamsterWeekends$Ints" "e" "[I") ∈ lw_all := lw_g (lw_at lw_m2 133 rfl) rfl
theorem q453 : (Jvm.Cond.soleField "HamsterWeekends$Ints" "e") ∈ lw_all := lw_g (lw_at lw_m2 134 rfl) rfl
theorem q454 : (Jvm.Cond.superclass "HamsterWeekends$Ints" "HamsterWeekends$Row") ∈ lw_all := lw_g (lw_at lw_m2 135 rfl) rfl
theorem q502 : (Jvm.Cond.selects "HamsterWeekends$Ints" ({ cls := "HamsterWeekends$Row", name := "put", desc := "(IJ)V" } : Jvm.MethodName) ({ cls := "HamsterWeekends$Ints", name := "put", desc := "(IJ)V" } : Jvm.MethodName)) ∈ lw_all := lw_g (lw_at lw_m2 183 rfl) rfl
theorem q503 : (Jvm.Cond.instanceMethod ({ cls := "HamsterWeekends$Ints", name := "put", desc := "(IJ)V" } : Jvm.MethodName)) ∈ lw_all := lw_g (lw_at lw_m2 184 rfl) rfl
theorem q504 : (Jvm.Cond.code ({ cls := "HamsterWeekends$Ints", name := "put", desc := "(IJ)V" } : Jvm.MethodName) prog_10_method_4_code (4 : Nat) (Option.none : Option Jvm.ClassFile.FieldType)) ∈ lw_all := lw_g (lw_at lw_m2 185 rfl) rfl
theorem q527 : (Jvm.Cond.selects "HamsterWeekends$Ints" ({ cls := "HamsterWeekends$Row", name := "sort", desc := "()I" } : Jvm.MethodName) ({ cls := "HamsterWeekends$Ints", name := "sort", desc := "()I" } : Jvm.MethodName)) ∈ lw_all := lw_g (lw_at lw_m2 208 rfl) rfl
theorem q528 : (Jvm.Cond.instanceMethod ({ cls := "HamsterWeekends$Ints", name := "sort", desc := "()I" } : Jvm.MethodName)) ∈ lw_all := lw_g (lw_at lw_m2 209 rfl) rfl
theorem q529 : (Jvm.Cond.code ({ cls := "HamsterWeekends$Ints", name := "sort", desc := "()I" } : Jvm.MethodName) prog_10_method_2_code (1 : Nat) (Option.some Jvm.ClassFile.FieldType.int)) ∈ lw_all := lw_g (lw_at lw_m2 210 rfl) rfl
theorem q542 : (Jvm.Cond.selects "HamsterWeekends$Ints" ({ cls := "HamsterWeekends$Row", name := "held", desc := "()Ljava/lang/Object;" } : Jvm.MethodName) ({ cls := "HamsterWeekends$Ints", name := "held", desc := "()Ljava/lang/Object;" } : Jvm.MethodName)) ∈ lw_all := lw_g (lw_at lw_m2 223 rfl) rfl
theorem q543 : (Jvm.Cond.instanceMethod ({ cls := "HamsterWeekends$Ints", name := "held", desc := "()Ljava/lang/Object;" } : Jvm.MethodName)) ∈ lw_all := lw_g (lw_at lw_m2 224 rfl) rfl
theorem q544 : (Jvm.Cond.code ({ cls := "HamsterWeekends$Ints", name := "held", desc := "()Ljava/lang/Object;" } : Jvm.MethodName) prog_10_method_8_code (1 : Nat) (Option.some (Jvm.ClassFile.FieldType.object "java/lang/Object"))) ∈ lw_all := lw_g (lw_at lw_m2 225 rfl) rfl
theorem q564 : (Jvm.Cond.selects "HamsterWeekends$Ints" ({ cls := "HamsterWeekends$Row", name := "get", desc := "(I)J" } : Jvm.MethodName) ({ cls := "HamsterWeekends$Ints", name := "get", desc := "(I)J" } : Jvm.MethodName)) ∈ lw_all := lw_g (lw_at lw_m3 5 rfl) rfl
theorem q565 : (Jvm.Cond.instanceMethod ({ cls := "HamsterWeekends$Ints", name := "get", desc := "(I)J" } : Jvm.MethodName)) ∈ lw_all := lw_g (lw_at lw_m3 6 rfl) rfl
theorem q566 : (Jvm.Cond.code ({ cls := "HamsterWeekends$Ints", name := "get", desc := "(I)J" } : Jvm.MethodName) prog_10_method_5_code (2 : Nat) (Option.some Jvm.ClassFile.FieldType.long)) ∈ lw_all := lw_g (lw_at lw_m3 7 rfl) rfl
theorem q842 : (Jvm.Cond.selects "HamsterWeekends$Ints" ({ cls := "HamsterWeekends$Row", name := "length", desc := "()I" } : Jvm.MethodName) ({ cls := "HamsterWeekends$Ints", name := "length", desc := "()I" } : Jvm.MethodName)) ∈ lw_all := lw_g (lw_at lw_m4 43 rfl) rfl
theorem q843 : (Jvm.Cond.instanceMethod ({ cls := "HamsterWeekends$Ints", name := "length", desc := "()I" } : Jvm.MethodName)) ∈ lw_all := lw_g (lw_at lw_m4 44 rfl) rfl
theorem q844 : (Jvm.Cond.code ({ cls := "HamsterWeekends$Ints", name := "length", desc := "()I" } : Jvm.MethodName) prog_10_method_3_code (1 : Nat) (Option.some Jvm.ClassFile.FieldType.int)) ∈ lw_all := lw_g (lw_at lw_m4 45 rfl) rfl
theorem q855 : (Jvm.Cond.selects "HamsterWeekends$Ints" ({ cls := "HamsterWeekends$Row", name := "asInt", desc := "(I)I" } : Jvm.MethodName) ({ cls := "HamsterWeekends$Row", name := "asInt", desc := "(I)I" } : Jvm.MethodName)) ∈ lw_all := lw_g (lw_at lw_m4 56 rfl) rfl
theorem q1832 : (Jvm.Cond.castable "HamsterWeekends$Ints" "HamsterWeekends$Row") ∈ lw_tbl := lw_at lw_m8 73 rfl
theorem in_X10 : ∀ w ∈ wsX100, w ∈ lw_all := lw_in wsX100 [452] (by decide +kernel) (by decide +kernel)

/-! HamsterWeekends$Longs -/
set_option maxRecDepth 100000
def RX11 : String := "HamsterWeekends$Longs"
def TX11 : u_T := fun k => match k with
  | _ => ("HamsterWeekends$Longs", "e", "[J", true)
def tyX11 : Nat → FieldType := fun k => match k with
  | _ => .array .long
abbrev wsX110 : List Cond := u_ws RX11 TX11 1
theorem nmX11 : ∀ a, a < 1 → ∀ b, b < 1 → a ≠ b → (TX11 a).2.1 ≠ (TX11 b).2.1 := by decide +kernel
theorem tyX11_ok : ∀ k, k < 1 → parseFieldDescriptor (TX11 k).2.2.1 = some (tyX11 k) := by decide +kernel
abbrev cX11_init : ByteArray := prog_11_method_1_code
def yX11_init : MethodName := ⟨RX11, "<init>", "(I)V"⟩
def dkwX11_init_0 : List UInt8 := [42, 183, 0, 1, 42, 27, 188, 11, 181, 0, 7, 177]
abbrev dktX11_init_0 : List UInt8 := dkwX11_init_0 ++ []
theorem dksX11_init_0 : cX11_init.data.toList.drop 0 = dktX11_init_0 := by decide +kernel
theorem dX11_init_0 : decode cX11_init 0 = .ok (.aload_n 0, 1) := dk_42 (dk_at dksX11_init_0 0 rfl rfl)
theorem dX11_init_1 : decode cX11_init 1 = .ok (.invokespecial 1, 3) := dk_183 0 1 (dk_at dksX11_init_0 1 rfl rfl)
theorem dX11_init_4 : decode cX11_init 4 = .ok (.aload_n 0, 1) := dk_42 (dk_at dksX11_init_0 4 rfl rfl)
theorem dX11_init_5 : decode cX11_init 5 = .ok (.iload_n 1, 1) := dk_27 (dk_at dksX11_init_0 5 rfl rfl)
theorem dX11_init_6 : decode cX11_init 6 = .ok (.newarray .long, 2) := dk_188_11 (dk_at dksX11_init_0 6 rfl rfl)
theorem dX11_init_8 : decode cX11_init 8 = .ok (.putfield 7, 3) := dk_181 0 7 (dk_at dksX11_init_0 8 rfl rfl)
theorem dX11_init_11 : decode cX11_init 11 = .ok (.return_, 1) := dk_177 (dk_at dksX11_init_0 11 rfl rfl)
abbrev cX11_put : ByteArray := prog_11_method_4_code
def yX11_put : MethodName := ⟨RX11, "put", "(IJ)V"⟩
def dkwX11_put_0 : List UInt8 := [42, 180, 0, 7, 27, 32, 80, 177]
abbrev dktX11_put_0 : List UInt8 := dkwX11_put_0 ++ []
theorem dksX11_put_0 : cX11_put.data.toList.drop 0 = dktX11_put_0 := by decide +kernel
theorem dX11_put_0 : decode cX11_put 0 = .ok (.aload_n 0, 1) := dk_42 (dk_at dksX11_put_0 0 rfl rfl)
theorem dX11_put_1 : decode cX11_put 1 = .ok (.getfield 7, 3) := dk_180 0 7 (dk_at dksX11_put_0 1 rfl rfl)
theorem dX11_put_4 : decode cX11_put 4 = .ok (.iload_n 1, 1) := dk_27 (dk_at dksX11_put_0 4 rfl rfl)
theorem dX11_put_5 : decode cX11_put 5 = .ok (.lload_n 2, 1) := dk_32 (dk_at dksX11_put_0 5 rfl rfl)
theorem dX11_put_6 : decode cX11_put 6 = .ok (.lastore, 1) := dk_80 (dk_at dksX11_put_0 6 rfl rfl)
theorem dX11_put_7 : decode cX11_put 7 = .ok (.return_, 1) := dk_177 (dk_at dksX11_put_0 7 rfl rfl)
abbrev cX11_sort : ByteArray := prog_11_method_2_code
def yX11_sort : MethodName := ⟨RX11, "sort", "()I"⟩
theorem dX11_sort_0 : decode cX11_sort 0 = .ok (.iconst 3, 1) := by decide +kernel
theorem dX11_sort_1 : decode cX11_sort 1 = .ok (.ireturn, 1) := by decide +kernel
abbrev cX11_held : ByteArray := prog_11_method_8_code
def yX11_held : MethodName := ⟨RX11, "held", "()Ljava/lang/Object;"⟩
theorem dX11_held_0 : decode cX11_held 0 = .ok (.aload_n 0, 1) := by decide +kernel
theorem dX11_held_1 : decode cX11_held 1 = .ok (.getfield 7, 3) := by decide +kernel
theorem dX11_held_4 : decode cX11_held 4 = .ok (.areturn, 1) := by decide +kernel
abbrev cX11_get : ByteArray := prog_11_method_5_code
def yX11_get : MethodName := ⟨RX11, "get", "(I)J"⟩
def dkwX11_get_0 : List UInt8 := [42, 180, 0, 7, 27, 47, 173]
abbrev dktX11_get_0 : List UInt8 := dkwX11_get_0 ++ []
theorem dksX11_get_0 : cX11_get.data.toList.drop 0 = dktX11_get_0 := by decide +kernel
theorem dX11_get_0 : decode cX11_get 0 = .ok (.aload_n 0, 1) := dk_42 (dk_at dksX11_get_0 0 rfl rfl)
theorem dX11_get_1 : decode cX11_get 1 = .ok (.getfield 7, 3) := dk_180 0 7 (dk_at dksX11_get_0 1 rfl rfl)
theorem dX11_get_4 : decode cX11_get 4 = .ok (.iload_n 1, 1) := dk_27 (dk_at dksX11_get_0 4 rfl rfl)
theorem dX11_get_5 : decode cX11_get 5 = .ok (.laload, 1) := dk_47 (dk_at dksX11_get_0 5 rfl rfl)
theorem dX11_get_6 : decode cX11_get 6 = .ok (.lreturn, 1) := dk_173 (dk_at dksX11_get_0 6 rfl rfl)
abbrev cX11_length : ByteArray := prog_11_method_3_code
def yX11_length : MethodName := ⟨RX11, "length", "()I"⟩
def dkwX11_length_0 : List UInt8 := [42, 180, 0, 7, 190, 172]
abbrev dktX11_length_0 : List UInt8 := dkwX11_length_0 ++ []
theorem dksX11_length_0 : cX11_length.data.toList.drop 0 = dktX11_length_0 := by decide +kernel
theorem dX11_length_0 : decode cX11_length 0 = .ok (.aload_n 0, 1) := dk_42 (dk_at dksX11_length_0 0 rfl rfl)
theorem dX11_length_1 : decode cX11_length 1 = .ok (.getfield 7, 3) := dk_180 0 7 (dk_at dksX11_length_0 1 rfl rfl)
theorem dX11_length_4 : decode cX11_length 4 = .ok (.arraylength, 1) := dk_190 (dk_at dksX11_length_0 4 rfl rfl)
theorem dX11_length_5 : decode cX11_length 5 = .ok (.ireturn, 1) := dk_172 (dk_at dksX11_length_0 5 rfl rfl)
theorem q98 : (Jvm.Cond.initialized "HamsterWeekends$Longs") ∈ lw_all := lw_g (lw_at lw_m1 19 rfl) rfl
theorem q456 : (Jvm.Cond.instantiable "HamsterWeekends$Longs" (1 : Nat)) ∈ lw_all := lw_g (lw_at lw_m2 137 rfl) rfl
theorem q458 : (Jvm.Cond.instanceMethod ({ cls := "HamsterWeekends$Longs", name := "<init>", desc := "(I)V" } : Jvm.MethodName)) ∈ lw_all := lw_g (lw_at lw_m2 139 rfl) rfl
theorem q459 : (Jvm.Cond.code ({ cls := "HamsterWeekends$Longs", name := "<init>", desc := "(I)V" } : Jvm.MethodName) prog_11_method_1_code (2 : Nat) (Option.none : Option Jvm.ClassFile.FieldType)) ∈ lw_all := lw_g (lw_at lw_m2 140 rfl) rfl
theorem q460 : (Jvm.Cond.methodLink "HamsterWeekends$Longs" (1 : Nat) ({ cls := "HamsterWeekends$Row", name := "<init>", desc := "()V" } : Jvm.MethodName)) ∈ lw_all := lw_g (lw_at lw_m2 141 rfl) rfl
theorem q461 : (Jvm.Cond.fieldLink "HamsterWeekends$Longs" (7 : Nat) "HamsterWeekends$Longs" "e" "[J") ∈ lw_all := lw_g (lw_at lw_m2 142 rfl) rfl
theorem q462 : (Jvm.Cond.laysFinal "HamsterWeekends$Longs" "HamsterWeekends$Longs" "e" "[J") ∈ lw_all := lw_g (lw_at lw_m2 143 rfl) rfl
theorem q463 : (Jvm.Cond.soleField "HamsterWeekends$Longs" "e") ∈ lw_all := lw_g (lw_at lw_m2 144 rfl) rfl
theorem q464 : (Jvm.Cond.superclass "HamsterWeekends$Longs" "HamsterWeekends$Row") ∈ lw_all := lw_g (lw_at lw_m2 145 rfl) rfl
theorem q505 : (Jvm.Cond.selects "HamsterWeekends$Longs" ({ cls := "HamsterWeekends$Row", name := "put", desc := "(IJ)V" } : Jvm.MethodName) ({ cls := "HamsterWeekends$Longs", name := "put", desc := "(IJ)V" } : Jvm.MethodName)) ∈ lw_all := lw_g (lw_at lw_m2 186 rfl) rfl
theorem q506 : (Jvm.Cond.instanceMethod ({ cls := "HamsterWeekends$Longs", name := "put", desc := "(IJ)V" } : Jvm.MethodName)) ∈ lw_all := lw_g (lw_at lw_m2 187 rfl) rfl
theorem q507 : (Jvm.Cond.code ({ cls := "HamsterWeekends$Longs", name := "put", desc := "(IJ)V" } : Jvm.MethodName) prog_11_method_4_code (4 : Nat) (Option.none : Option Jvm.ClassFile.FieldType)) ∈ lw_all := lw_g (lw_at lw_m2 188 rfl) rfl
theorem q530 : (Jvm.Cond.selects "HamsterWeekends$Longs" ({ cls := "HamsterWeekends$Row", name := "sort", desc := "()I" } : Jvm.MethodName) ({ cls := "HamsterWeekends$Longs", name := "sort", desc := "()I" } : Jvm.MethodName)) ∈ lw_all := lw_g (lw_at lw_m2 211 rfl) rfl
theorem q531 : (Jvm.Cond.instanceMethod ({ cls := "HamsterWeekends$Longs", name := "sort", desc := "()I" } : Jvm.MethodName)) ∈ lw_all := lw_g (lw_at lw_m2 212 rfl) rfl
theorem q532 : (Jvm.Cond.code ({ cls := "HamsterWeekends$Longs", name := "sort", desc := "()I" } : Jvm.MethodName) prog_11_method_2_code (1 : Nat) (Option.some Jvm.ClassFile.FieldType.int)) ∈ lw_all := lw_g (lw_at lw_m2 213 rfl) rfl
theorem q545 : (Jvm.Cond.selects "HamsterWeekends$Longs" ({ cls := "HamsterWeekends$Row", name := "held", desc := "()Ljava/lang/Object;" } : Jvm.MethodName) ({ cls := "HamsterWeekends$Longs", name := "held", desc := "()Ljava/lang/Object;" } : Jvm.MethodName)) ∈ lw_all := lw_g (lw_at lw_m2 226 rfl) rfl
theorem q546 : (Jvm.Cond.instanceMethod ({ cls := "HamsterWeekends$Longs", name := "held", desc := "()Ljava/lang/Object;" } : Jvm.MethodName)) ∈ lw_all := lw_g (lw_at lw_m2 227 rfl) rfl
theorem q547 : (Jvm.Cond.code ({ cls := "HamsterWeekends$Longs", name := "held", desc := "()Ljava/lang/Object;" } : Jvm.MethodName) prog_11_method_8_code (1 : Nat) (Option.some (Jvm.ClassFile.FieldType.object "java/lang/Object"))) ∈ lw_all := lw_g (lw_at lw_m2 228 rfl) rfl
theorem q567 : (Jvm.Cond.selects "HamsterWeekends$Longs" ({ cls := "HamsterWeekends$Row", name := "get", desc := "(I)J" } : Jvm.MethodName) ({ cls := "HamsterWeekends$Longs", name := "get", desc := "(I)J" } : Jvm.MethodName)) ∈ lw_all := lw_g (lw_at lw_m3 8 rfl) rfl
theorem q568 : (Jvm.Cond.instanceMethod ({ cls := "HamsterWeekends$Longs", name := "get", desc := "(I)J" } : Jvm.MethodName)) ∈ lw_all := lw_g (lw_at lw_m3 9 rfl) rfl
theorem q569 : (Jvm.Cond.code ({ cls := "HamsterWeekends$Longs", name := "get", desc := "(I)J" } : Jvm.MethodName) prog_11_method_5_code (2 : Nat) (Option.some Jvm.ClassFile.FieldType.long)) ∈ lw_all := lw_g (lw_at lw_m3 10 rfl) rfl
theorem q845 : (Jvm.Cond.selects "HamsterWeekends$Longs" ({ cls := "HamsterWeekends$Row", name := "length", desc := "()I" } : Jvm.MethodName) ({ cls := "HamsterWeekends$Longs", name := "length", desc := "()I" } : Jvm.MethodName)) ∈ lw_all := lw_g (lw_at lw_m4 46 rfl) rfl
theorem q846 : (Jvm.Cond.instanceMethod ({ cls := "HamsterWeekends$Longs", name := "length", desc := "()I" } : Jvm.MethodName)) ∈ lw_all := lw_g (lw_at lw_m4 47 rfl) rfl
theorem q847 : (Jvm.Cond.code ({ cls := "HamsterWeekends$Longs", name := "length", desc := "()I" } : Jvm.MethodName) prog_11_method_3_code (1 : Nat) (Option.some Jvm.ClassFile.FieldType.int)) ∈ lw_all := lw_g (lw_at lw_m4 48 rfl) rfl
theorem q856 : (Jvm.Cond.selects "HamsterWeekends$Longs" ({ cls := "HamsterWeekends$Row", name := "asInt", desc := "(I)I" } : Jvm.MethodName) ({ cls := "HamsterWeekends$Row", name := "asInt", desc := "(I)I" } : Jvm.MethodName)) ∈ lw_all := lw_g (lw_at lw_m4 57 rfl) rfl
theorem q1833 : (Jvm.Cond.castable "HamsterWeekends$Longs" "HamsterWeekends$Row") ∈ lw_tbl := lw_at lw_m8 74 rfl
theorem in_X11 : ∀ w ∈ wsX110, w ∈ lw_all := lw_in wsX110 [462] (by decide +kernel) (by decide +kernel)

/-! HamsterWeekends$Home -/
set_option maxRecDepth 100000
def RX12 : String := "HamsterWeekends$Home"
def TX12 : u_T := fun k => match k with
  | 0 => ("HamsterWeekends$Home", "index", "I", true)
  | _ => ("HamsterWeekends$Home", "by", "I", true)
def tyX12 : Nat → FieldType := fun k => match k with
  | 0 => .int
  | _ => .int
abbrev wsX120 : List Cond := u_ws RX12 TX12 2
theorem nmX12 : ∀ a, a < 2 → ∀ b, b < 2 → a ≠ b → (TX12 a).2.1 ≠ (TX12 b).2.1 := by decide +kernel
theorem tyX12_ok : ∀ k, k < 2 → parseFieldDescriptor (TX12 k).2.2.1 = some (tyX12 k) := by decide +kernel
abbrev cX12_init : ByteArray := prog_9_method_1_code
def yX12_init : MethodName := ⟨RX12, "<init>", "(II)V"⟩
def dkwX12_init_0 : List UInt8 := [42, 183, 0, 1, 42, 27, 181, 0, 7, 42, 28, 181, 0, 13, 177]
abbrev dktX12_init_0 : List UInt8 := dkwX12_init_0 ++ []
theorem dksX12_init_0 : cX12_init.data.toList.drop 0 = dktX12_init_0 := by decide +kernel
theorem dX12_init_0 : decode cX12_init 0 = .ok (.aload_n 0, 1) := dk_42 (dk_at dksX12_init_0 0 rfl rfl)
theorem dX12_init_1 : decode cX12_init 1 = .ok (.invokespecial 1, 3) := dk_183 0 1 (dk_at dksX12_init_0 1 rfl rfl)
theorem dX12_init_4 : decode cX12_init 4 = .ok (.aload_n 0, 1) := dk_42 (dk_at dksX12_init_0 4 rfl rfl)
theorem dX12_init_5 : decode cX12_init 5 = .ok (.iload_n 1, 1) := dk_27 (dk_at dksX12_init_0 5 rfl rfl)
theorem dX12_init_6 : decode cX12_init 6 = .ok (.putfield 7, 3) := dk_181 0 7 (dk_at dksX12_init_0 6 rfl rfl)
theorem dX12_init_9 : decode cX12_init 9 = .ok (.aload_n 0, 1) := dk_42 (dk_at dksX12_init_0 9 rfl rfl)
theorem dX12_init_10 : decode cX12_init 10 = .ok (.iload_n 2, 1) := dk_28 (dk_at dksX12_init_0 10 rfl rfl)
theorem dX12_init_11 : decode cX12_init 11 = .ok (.putfield 13, 3) := dk_181 0 13 (dk_at dksX12_init_0 11 rfl rfl)
theorem dX12_init_14 : decode cX12_init 14 = .ok (.return_, 1) := dk_177 (dk_at dksX12_init_0 14 rfl rfl)
abbrev cX12_kind : ByteArray := prog_9_method_2_code
def yX12_kind : MethodName := ⟨RX12, "kind", "()I"⟩
theorem dX12_kind_0 : decode cX12_kind 0 = .ok (.iconst 0, 1) := by decide +kernel
theorem dX12_kind_1 : decode cX12_kind 1 = .ok (.ireturn, 1) := by decide +kernel
abbrev cX12_weekend : ByteArray := prog_9_method_3_code
def yX12_weekend : MethodName := ⟨RX12, "weekend", "(LHamsterWeekends$Pet;)V"⟩
def dkwX12_weekend_0 : List UInt8 := [43, 42, 180, 0, 13, 116, 182, 0, 16, 177]
abbrev dktX12_weekend_0 : List UInt8 := dkwX12_weekend_0 ++ []
theorem dksX12_weekend_0 : cX12_weekend.data.toList.drop 0 = dktX12_weekend_0 := by decide +kernel
theorem dX12_weekend_0 : decode cX12_weekend 0 = .ok (.aload_n 1, 1) := dk_43 (dk_at dksX12_weekend_0 0 rfl rfl)
theorem dX12_weekend_1 : decode cX12_weekend 1 = .ok (.aload_n 0, 1) := dk_42 (dk_at dksX12_weekend_0 1 rfl rfl)
theorem dX12_weekend_2 : decode cX12_weekend 2 = .ok (.getfield 13, 3) := dk_180 0 13 (dk_at dksX12_weekend_0 2 rfl rfl)
theorem dX12_weekend_5 : decode cX12_weekend 5 = .ok (.ineg, 1) := dk_116 (dk_at dksX12_weekend_0 5 rfl rfl)
theorem dX12_weekend_6 : decode cX12_weekend 6 = .ok (.invokevirtual 16, 3) := dk_182 0 16 (dk_at dksX12_weekend_0 6 rfl rfl)
theorem dX12_weekend_9 : decode cX12_weekend 9 = .ok (.return_, 1) := dk_177 (dk_at dksX12_weekend_0 9 rfl rfl)
abbrev cX12_feeding : ByteArray := prog_9_method_4_code
def yX12_feeding : MethodName := ⟨RX12, "feeding", "(ILHamsterWeekends$Trace;)I"⟩
def dkwX12_feeding_0 : List UInt8 := [44, 16, 10, 182, 0, 22, 27, 42, 180, 0, 7, 96, 172]
abbrev dktX12_feeding_0 : List UInt8 := dkwX12_feeding_0 ++ []
theorem dksX12_feeding_0 : cX12_feeding.data.toList.drop 0 = dktX12_feeding_0 := by decide +kernel
theorem dX12_feeding_0 : decode cX12_feeding 0 = .ok (.aload_n 2, 1) := dk_44 (dk_at dksX12_feeding_0 0 rfl rfl)
theorem dX12_feeding_1 : decode cX12_feeding 1 = .ok (.bipush 10, 2) := dk_16 10 (dk_at dksX12_feeding_0 1 rfl rfl)
theorem dX12_feeding_3 : decode cX12_feeding 3 = .ok (.invokevirtual 22, 3) := dk_182 0 22 (dk_at dksX12_feeding_0 3 rfl rfl)
theorem dX12_feeding_6 : decode cX12_feeding 6 = .ok (.iload_n 1, 1) := dk_27 (dk_at dksX12_feeding_0 6 rfl rfl)
theorem dX12_feeding_7 : decode cX12_feeding 7 = .ok (.aload_n 0, 1) := dk_42 (dk_at dksX12_feeding_0 7 rfl rfl)
theorem dX12_feeding_8 : decode cX12_feeding 8 = .ok (.getfield 7, 3) := dk_180 0 7 (dk_at dksX12_feeding_0 8 rfl rfl)
theorem dX12_feeding_11 : decode cX12_feeding 11 = .ok (.iadd, 1) := dk_96 (dk_at dksX12_feeding_0 11 rfl rfl)
theorem dX12_feeding_12 : decode cX12_feeding 12 = .ok (.ireturn, 1) := dk_172 (dk_at dksX12_feeding_0 12 rfl rfl)
abbrev cX12_weighing : ByteArray := prog_9_method_5_code
def yX12_weighing : MethodName := ⟨RX12, "weighing", "(ILHamsterWeekends$Trace;)I"⟩
def dkwX12_weighing_0 : List UInt8 := [44, 16, 11, 182, 0, 22, 42, 27, 44, 182, 0, 27, 5, 104, 172]
abbrev dktX12_weighing_0 : List UInt8 := dkwX12_weighing_0 ++ []
theorem dksX12_weighing_0 : cX12_weighing.data.toList.drop 0 = dktX12_weighing_0 := by decide +kernel
theorem dX12_weighing_0 : decode cX12_weighing 0 = .ok (.aload_n 2, 1) := dk_44 (dk_at dksX12_weighing_0 0 rfl rfl)
theorem dX12_weighing_1 : decode cX12_weighing 1 = .ok (.bipush 11, 2) := dk_16 11 (dk_at dksX12_weighing_0 1 rfl rfl)
theorem dX12_weighing_3 : decode cX12_weighing 3 = .ok (.invokevirtual 22, 3) := dk_182 0 22 (dk_at dksX12_weighing_0 3 rfl rfl)
theorem dX12_weighing_6 : decode cX12_weighing 6 = .ok (.aload_n 0, 1) := dk_42 (dk_at dksX12_weighing_0 6 rfl rfl)
theorem dX12_weighing_7 : decode cX12_weighing 7 = .ok (.iload_n 1, 1) := dk_27 (dk_at dksX12_weighing_0 7 rfl rfl)
theorem dX12_weighing_8 : decode cX12_weighing 8 = .ok (.aload_n 2, 1) := dk_44 (dk_at dksX12_weighing_0 8 rfl rfl)
theorem dX12_weighing_9 : decode cX12_weighing 9 = .ok (.invokevirtual 27, 3) := dk_182 0 27 (dk_at dksX12_weighing_0 9 rfl rfl)
theorem dX12_weighing_12 : decode cX12_weighing 12 = .ok (.iconst 2, 1) := dk_5 (dk_at dksX12_weighing_0 12 rfl rfl)
theorem dX12_weighing_13 : decode cX12_weighing 13 = .ok (.imul, 1) := dk_104 (dk_at dksX12_weighing_0 13 rfl rfl)
theorem dX12_weighing_14 : decode cX12_weighing 14 = .ok (.ireturn, 1) := dk_172 (dk_at dksX12_weighing_0 14 rfl rfl)
abbrev cX12_writing : ByteArray := prog_9_method_6_code
def yX12_writing : MethodName := ⟨RX12, "writing", "(ILHamsterWeekends$Trace;)I"⟩
def dkwX12_writing_1 : List UInt8 := [182, 0, 27, 130, 172]
abbrev dktX12_writing_1 : List UInt8 := dkwX12_writing_1 ++ []
def dkwX12_writing_0 : List UInt8 := [44, 16, 12, 182, 0, 22, 42, 27, 44, 182, 0, 31, 62, 29, 42, 27, 42, 180, 0, 13, 100, 44]
abbrev dktX12_writing_0 : List UInt8 := dkwX12_writing_0 ++ dktX12_writing_1
theorem dksX12_writing_0 : cX12_writing.data.toList.drop 0 = dktX12_writing_0 := by decide +kernel
theorem dksX12_writing_1 : cX12_writing.data.toList.drop 22 = dktX12_writing_1 := dk_seg dksX12_writing_0 22 rfl rfl
theorem dX12_writing_0 : decode cX12_writing 0 = .ok (.aload_n 2, 1) := dk_44 (dk_at dksX12_writing_0 0 rfl rfl)
theorem dX12_writing_1 : decode cX12_writing 1 = .ok (.bipush 12, 2) := dk_16 12 (dk_at dksX12_writing_0 1 rfl rfl)
theorem dX12_writing_3 : decode cX12_writing 3 = .ok (.invokevirtual 22, 3) := dk_182 0 22 (dk_at dksX12_writing_0 3 rfl rfl)
theorem dX12_writing_6 : decode cX12_writing 6 = .ok (.aload_n 0, 1) := dk_42 (dk_at dksX12_writing_0 6 rfl rfl)
theorem dX12_writing_7 : decode cX12_writing 7 = .ok (.iload_n 1, 1) := dk_27 (dk_at dksX12_writing_0 7 rfl rfl)
theorem dX12_writing_8 : decode cX12_writing 8 = .ok (.aload_n 2, 1) := dk_44 (dk_at dksX12_writing_0 8 rfl rfl)
theorem dX12_writing_9 : decode cX12_writing 9 = .ok (.invokevirtual 31, 3) := dk_182 0 31 (dk_at dksX12_writing_0 9 rfl rfl)
theorem dX12_writing_12 : decode cX12_writing 12 = .ok (.istore_n 3, 1) := dk_62 (dk_at dksX12_writing_0 12 rfl rfl)
theorem dX12_writing_13 : decode cX12_writing 13 = .ok (.iload_n 3, 1) := dk_29 (dk_at dksX12_writing_0 13 rfl rfl)
theorem dX12_writing_14 : decode cX12_writing 14 = .ok (.aload_n 0, 1) := dk_42 (dk_at dksX12_writing_0 14 rfl rfl)
theorem dX12_writing_15 : decode cX12_writing 15 = .ok (.iload_n 1, 1) := dk_27 (dk_at dksX12_writing_0 15 rfl rfl)
theorem dX12_writing_16 : decode cX12_writing 16 = .ok (.aload_n 0, 1) := dk_42 (dk_at dksX12_writing_0 16 rfl rfl)
theorem dX12_writing_17 : decode cX12_writing 17 = .ok (.getfield 13, 3) := dk_180 0 13 (dk_at dksX12_writing_0 17 rfl rfl)
theorem dX12_writing_20 : decode cX12_writing 20 = .ok (.isub, 1) := dk_100 (dk_at dksX12_writing_0 20 rfl rfl)
theorem dX12_writing_21 : decode cX12_writing 21 = .ok (.aload_n 2, 1) := dk_44 (dk_at dksX12_writing_0 21 rfl rfl)
theorem dX12_writing_22 : decode cX12_writing 22 = .ok (.invokevirtual 27, 3) := dk_182 0 27 (dk_at dksX12_writing_1 0 rfl rfl)
theorem dX12_writing_25 : decode cX12_writing 25 = .ok (.ixor, 1) := dk_130 (dk_at dksX12_writing_1 3 rfl rfl)
theorem dX12_writing_26 : decode cX12_writing 26 = .ok (.ireturn, 1) := dk_172 (dk_at dksX12_writing_1 4 rfl rfl)
theorem q102 : (Jvm.Cond.initialized "HamsterWeekends$Home") ∈ lw_all := lw_g (lw_at lw_m1 23 rfl) rfl
theorem q662 : (Jvm.Cond.instanceMethod ({ cls := "HamsterWeekends$Home", name := "<init>", desc := "(II)V" } : Jvm.MethodName)) ∈ lw_all := lw_g (lw_at lw_m3 103 rfl) rfl
theorem q663 : (Jvm.Cond.code ({ cls := "HamsterWeekends$Home", name := "<init>", desc := "(II)V" } : Jvm.MethodName) prog_9_method_1_code (3 : Nat) (Option.none : Option Jvm.ClassFile.FieldType)) ∈ lw_all := lw_g (lw_at lw_m3 104 rfl) rfl
theorem q664 : (Jvm.Cond.methodLink "HamsterWeekends$Home" (1 : Nat) ({ cls := "java/lang/Object", name := "<init>", desc := "()V" } : Jvm.MethodName)) ∈ lw_all := lw_g (lw_at lw_m3 105 rfl) rfl
theorem q665 : (Jvm.Cond.fieldLink "HamsterWeekends$Home" (7 : Nat) "HamsterWeekends$Home" "index" "I") ∈ lw_all := lw_g (lw_at lw_m3 106 rfl) rfl
theorem q670 : (Jvm.Cond.fieldLink "HamsterWeekends$Home" (13 : Nat) "HamsterWeekends$Home" "by" "I") ∈ lw_all := lw_g (lw_at lw_m3 111 rfl) rfl
theorem q681 : (Jvm.Cond.soleField "HamsterWeekends$Home" "index") ∈ lw_all := lw_g (lw_at lw_m3 122 rfl) rfl
theorem q683 : (Jvm.Cond.soleField "HamsterWeekends$Home" "by") ∈ lw_all := lw_g (lw_at lw_m3 124 rfl) rfl
theorem q727 : (Jvm.Cond.instantiable "HamsterWeekends$Home" (2 : Nat)) ∈ lw_all := lw_g (lw_at lw_m3 168 rfl) rfl
theorem q729 : (Jvm.Cond.laysFinal "HamsterWeekends$Home" "HamsterWeekends$Home" "index" "I") ∈ lw_all := lw_g (lw_at lw_m3 170 rfl) rfl
theorem q730 : (Jvm.Cond.laysFinal "HamsterWeekends$Home" "HamsterWeekends$Home" "by" "I") ∈ lw_all := lw_g (lw_at lw_m3 171 rfl) rfl
theorem q731 : (Jvm.Cond.superclass "HamsterWeekends$Home" "java/lang/Object") ∈ lw_all := lw_g (lw_at lw_m3 172 rfl) rfl
theorem q741 : (Jvm.Cond.instanceMethod ({ cls := "HamsterWeekends$Home", name := "kind", desc := "()I" } : Jvm.MethodName)) ∈ lw_all := lw_g (lw_at lw_m3 182 rfl) rfl
theorem q742 : (Jvm.Cond.selects "HamsterWeekends$Home" ({ cls := "HamsterWeekends$Home", name := "kind", desc := "()I" } : Jvm.MethodName) ({ cls := "HamsterWeekends$Home", name := "kind", desc := "()I" } : Jvm.MethodName)) ∈ lw_all := lw_g (lw_at lw_m3 183 rfl) rfl
theorem q743 : (Jvm.Cond.sameMethod "HamsterWeekends$Home" "HamsterWeekends$Home" "kind" "()I") ∈ lw_all := lw_g (lw_at lw_m3 184 rfl) rfl
theorem q762 : (Jvm.Cond.code ({ cls := "HamsterWeekends$Home", name := "kind", desc := "()I" } : Jvm.MethodName) prog_9_method_2_code (1 : Nat) (Option.some Jvm.ClassFile.FieldType.int)) ∈ lw_all := lw_g (lw_at lw_m3 203 rfl) rfl
theorem q997 : (Jvm.Cond.instanceMethod ({ cls := "HamsterWeekends$Home", name := "weekend", desc := "(LHamsterWeekends$Pet;)V" } : Jvm.MethodName)) ∈ lw_all := lw_g (lw_at lw_m4 198 rfl) rfl
theorem q998 : (Jvm.Cond.selects "HamsterWeekends$Home" ({ cls := "HamsterWeekends$Home", name := "weekend", desc := "(LHamsterWeekends$Pet;)V" } : Jvm.MethodName) ({ cls := "HamsterWeekends$Home", name := "weekend", desc := "(LHamsterWeekends$Pet;)V" } : Jvm.MethodName)) ∈ lw_all := lw_g (lw_at lw_m4 199 rfl) rfl
theorem q999 : (Jvm.Cond.sameMethod "HamsterWeekends$Home" "HamsterWeekends$Home" "weekend" "(LHamsterWeekends$Pet;)V") ∈ lw_all := lw_g (lw_at lw_m4 200 rfl) rfl
theorem q1021 : (Jvm.Cond.code ({ cls := "HamsterWeekends$Home", name := "weekend", desc := "(LHamsterWeekends$Pet;)V" } : Jvm.MethodName) prog_9_method_3_code (2 : Nat) (Option.none : Option Jvm.ClassFile.FieldType)) ∈ lw_all := lw_g (lw_at lw_m4 222 rfl) rfl
theorem q1022 : (Jvm.Cond.methodLink "HamsterWeekends$Home" (16 : Nat) ({ cls := "HamsterWeekends$Pet", name := "gains", desc := "(I)V" } : Jvm.MethodName)) ∈ lw_all := lw_g (lw_at lw_m4 223 rfl) rfl
theorem q1224 : (Jvm.Cond.instanceMethod ({ cls := "HamsterWeekends$Home", name := "feeding", desc := "(ILHamsterWeekends$Trace;)I" } : Jvm.MethodName)) ∈ lw_all := lw_g (lw_at lw_m5 185 rfl) rfl
theorem q1225 : (Jvm.Cond.selects "HamsterWeekends$Home" ({ cls := "HamsterWeekends$Home", name := "feeding", desc := "(ILHamsterWeekends$Trace;)I" } : Jvm.MethodName) ({ cls := "HamsterWeekends$Home", name := "feeding", desc := "(ILHamsterWeekends$Trace;)I" } : Jvm.MethodName)) ∈ lw_all := lw_g (lw_at lw_m5 186 rfl) rfl
theorem q1226 : (Jvm.Cond.sameMethod "HamsterWeekends$Home" "HamsterWeekends$Home" "feeding" "(ILHamsterWeekends$Trace;)I") ∈ lw_all := lw_g (lw_at lw_m5 187 rfl) rfl
theorem q1248 : (Jvm.Cond.code ({ cls := "HamsterWeekends$Home", name := "feeding", desc := "(ILHamsterWeekends$Trace;)I" } : Jvm.MethodName) prog_9_method_4_code (3 : Nat) (Option.some Jvm.ClassFile.FieldType.int)) ∈ lw_all := lw_g (lw_at lw_m5 209 rfl) rfl
theorem q1249 : (Jvm.Cond.methodLink "HamsterWeekends$Home" (22 : Nat) ({ cls := "HamsterWeekends$Trace", name := "runs", desc := "(I)V" } : Jvm.MethodName)) ∈ lw_all := lw_g (lw_at lw_m5 210 rfl) rfl
theorem q1251 : (Jvm.Cond.instanceMethod ({ cls := "HamsterWeekends$Home", name := "weighing", desc := "(ILHamsterWeekends$Trace;)I" } : Jvm.MethodName)) ∈ lw_all := lw_g (lw_at lw_m5 212 rfl) rfl
theorem q1252 : (Jvm.Cond.selects "HamsterWeekends$Home" ({ cls := "HamsterWeekends$Home", name := "weighing", desc := "(ILHamsterWeekends$Trace;)I" } : Jvm.MethodName) ({ cls := "HamsterWeekends$Home", name := "weighing", desc := "(ILHamsterWeekends$Trace;)I" } : Jvm.MethodName)) ∈ lw_all := lw_g (lw_at lw_m5 213 rfl) rfl
theorem q1253 : (Jvm.Cond.sameMethod "HamsterWeekends$Home" "HamsterWeekends$Home" "weighing" "(ILHamsterWeekends$Trace;)I") ∈ lw_all := lw_g (lw_at lw_m5 214 rfl) rfl
theorem q1259 : (Jvm.Cond.declares ({ cls := "HamsterWeekends$Home", name := "weighing", desc := "(ILHamsterWeekends$Trace;)I" } : Jvm.MethodName)) ∈ lw_tbl := lw_at lw_m5 220 rfl
theorem q1274 : (Jvm.Cond.code ({ cls := "HamsterWeekends$Home", name := "weighing", desc := "(ILHamsterWeekends$Trace;)I" } : Jvm.MethodName) prog_9_method_5_code (3 : Nat) (Option.some Jvm.ClassFile.FieldType.int)) ∈ lw_all := lw_g (lw_at lw_m5 235 rfl) rfl
theorem q1275 : (Jvm.Cond.methodLink "HamsterWeekends$Home" (27 : Nat) ({ cls := "HamsterWeekends$Home", name := "feeding", desc := "(ILHamsterWeekends$Trace;)I" } : Jvm.MethodName)) ∈ lw_all := lw_g (lw_at lw_m5 236 rfl) rfl
theorem q1277 : (Jvm.Cond.instanceMethod ({ cls := "HamsterWeekends$Home", name := "writing", desc := "(ILHamsterWeekends$Trace;)I" } : Jvm.MethodName)) ∈ lw_all := lw_g (lw_at lw_m5 238 rfl) rfl
theorem q1278 : (Jvm.Cond.selects "HamsterWeekends$Home" ({ cls := "HamsterWeekends$Home", name := "writing", desc := "(ILHamsterWeekends$Trace;)I" } : Jvm.MethodName) ({ cls := "HamsterWeekends$Home", name := "writing", desc := "(ILHamsterWeekends$Trace;)I" } : Jvm.MethodName)) ∈ lw_all := lw_g (lw_at lw_m5 239 rfl) rfl
theorem q1279 : (Jvm.Cond.sameMethod "HamsterWeekends$Home" "HamsterWeekends$Home" "writing" "(ILHamsterWeekends$Trace;)I") ∈ lw_all := lw_g (lw_at lw_m6 0 rfl) rfl
theorem q1291 : (Jvm.Cond.declares ({ cls := "HamsterWeekends$Home", name := "writing", desc := "(ILHamsterWeekends$Trace;)I" } : Jvm.MethodName)) ∈ lw_tbl := lw_at lw_m6 12 rfl
theorem q1295 : (Jvm.Cond.code ({ cls := "HamsterWeekends$Home", name := "writing", desc := "(ILHamsterWeekends$Trace;)I" } : Jvm.MethodName) prog_9_method_6_code (4 : Nat) (Option.some Jvm.ClassFile.FieldType.int)) ∈ lw_all := lw_g (lw_at lw_m6 16 rfl) rfl
theorem q1296 : (Jvm.Cond.methodLink "HamsterWeekends$Home" (31 : Nat) ({ cls := "HamsterWeekends$Home", name := "weighing", desc := "(ILHamsterWeekends$Trace;)I" } : Jvm.MethodName)) ∈ lw_all := lw_g (lw_at lw_m6 17 rfl) rfl
theorem in_X12 : ∀ w ∈ wsX120, w ∈ lw_all := lw_in wsX120 [729, 730] (by decide +kernel) (by decide +kernel)

/-! HamsterWeekends$Good -/
set_option maxRecDepth 100000
def RX13 : String := "HamsterWeekends$Good"
def TX13 : u_T := fun k => match k with
  | 0 => ("HamsterWeekends$Home", "index", "I", true)
  | _ => ("HamsterWeekends$Home", "by", "I", true)
def tyX13 : Nat → FieldType := fun k => match k with
  | 0 => .int
  | _ => .int
abbrev wsX130 : List Cond := u_ws RX13 TX13 2
theorem nmX13 : ∀ a, a < 2 → ∀ b, b < 2 → a ≠ b → (TX13 a).2.1 ≠ (TX13 b).2.1 := by decide +kernel
theorem tyX13_ok : ∀ k, k < 2 → parseFieldDescriptor (TX13 k).2.2.1 = some (tyX13 k) := by decide +kernel
abbrev cX13_more : ByteArray := prog_8_method_3_code
def yX13_more : MethodName := ⟨RX13, "more", "()I"⟩
theorem dX13_more_0 : decode cX13_more 0 = .ok (.aload_n 0, 1) := by decide +kernel
theorem dX13_more_1 : decode cX13_more 1 = .ok (.getfield 9, 3) := by decide +kernel
theorem dX13_more_4 : decode cX13_more 4 = .ok (.ireturn, 1) := by decide +kernel
abbrev cX13_init : ByteArray := prog_8_method_1_code
def yX13_init : MethodName := ⟨RX13, "<init>", "(II)V"⟩
def dkwX13_init_0 : List UInt8 := [42, 27, 28, 183, 0, 3, 177]
abbrev dktX13_init_0 : List UInt8 := dkwX13_init_0 ++ []
theorem dksX13_init_0 : cX13_init.data.toList.drop 0 = dktX13_init_0 := by decide +kernel
theorem dX13_init_0 : decode cX13_init 0 = .ok (.aload_n 0, 1) := dk_42 (dk_at dksX13_init_0 0 rfl rfl)
theorem dX13_init_1 : decode cX13_init 1 = .ok (.iload_n 1, 1) := dk_27 (dk_at dksX13_init_0 1 rfl rfl)
theorem dX13_init_2 : decode cX13_init 2 = .ok (.iload_n 2, 1) := dk_28 (dk_at dksX13_init_0 2 rfl rfl)
theorem dX13_init_3 : decode cX13_init 3 = .ok (.invokespecial 3, 3) := dk_183 0 3 (dk_at dksX13_init_0 3 rfl rfl)
theorem dX13_init_6 : decode cX13_init 6 = .ok (.return_, 1) := dk_177 (dk_at dksX13_init_0 6 rfl rfl)
abbrev cX13_kind : ByteArray := prog_8_method_2_code
def yX13_kind : MethodName := ⟨RX13, "kind", "()I"⟩
theorem dX13_kind_0 : decode cX13_kind 0 = .ok (.iconst 1, 1) := by decide +kernel
theorem dX13_kind_1 : decode cX13_kind 1 = .ok (.ireturn, 1) := by decide +kernel
abbrev cX13_weekend : ByteArray := prog_8_method_4_code
def yX13_weekend : MethodName := ⟨RX13, "weekend", "(LHamsterWeekends$Pet;)V"⟩
def dkwX13_weekend_0 : List UInt8 := [43, 42, 182, 0, 15, 182, 0, 19, 177]
abbrev dktX13_weekend_0 : List UInt8 := dkwX13_weekend_0 ++ []
theorem dksX13_weekend_0 : cX13_weekend.data.toList.drop 0 = dktX13_weekend_0 := by decide +kernel
theorem dX13_weekend_0 : decode cX13_weekend 0 = .ok (.aload_n 1, 1) := dk_43 (dk_at dksX13_weekend_0 0 rfl rfl)
theorem dX13_weekend_1 : decode cX13_weekend 1 = .ok (.aload_n 0, 1) := dk_42 (dk_at dksX13_weekend_0 1 rfl rfl)
theorem dX13_weekend_2 : decode cX13_weekend 2 = .ok (.invokevirtual 15, 3) := dk_182 0 15 (dk_at dksX13_weekend_0 2 rfl rfl)
theorem dX13_weekend_5 : decode cX13_weekend 5 = .ok (.invokevirtual 19, 3) := dk_182 0 19 (dk_at dksX13_weekend_0 5 rfl rfl)
theorem dX13_weekend_8 : decode cX13_weekend 8 = .ok (.return_, 1) := dk_177 (dk_at dksX13_weekend_0 8 rfl rfl)
abbrev cX13_feeding : ByteArray := prog_8_method_5_code
def yX13_feeding : MethodName := ⟨RX13, "feeding", "(ILHamsterWeekends$Trace;)I"⟩
def dkwX13_feeding_0 : List UInt8 := [44, 16, 20, 182, 0, 25, 42, 27, 44, 183, 0, 30, 42, 180, 0, 9, 96, 172]
abbrev dktX13_feeding_0 : List UInt8 := dkwX13_feeding_0 ++ []
theorem dksX13_feeding_0 : cX13_feeding.data.toList.drop 0 = dktX13_feeding_0 := by decide +kernel
theorem dX13_feeding_0 : decode cX13_feeding 0 = .ok (.aload_n 2, 1) := dk_44 (dk_at dksX13_feeding_0 0 rfl rfl)
theorem dX13_feeding_1 : decode cX13_feeding 1 = .ok (.bipush 20, 2) := dk_16 20 (dk_at dksX13_feeding_0 1 rfl rfl)
theorem dX13_feeding_3 : decode cX13_feeding 3 = .ok (.invokevirtual 25, 3) := dk_182 0 25 (dk_at dksX13_feeding_0 3 rfl rfl)
theorem dX13_feeding_6 : decode cX13_feeding 6 = .ok (.aload_n 0, 1) := dk_42 (dk_at dksX13_feeding_0 6 rfl rfl)
theorem dX13_feeding_7 : decode cX13_feeding 7 = .ok (.iload_n 1, 1) := dk_27 (dk_at dksX13_feeding_0 7 rfl rfl)
theorem dX13_feeding_8 : decode cX13_feeding 8 = .ok (.aload_n 2, 1) := dk_44 (dk_at dksX13_feeding_0 8 rfl rfl)
theorem dX13_feeding_9 : decode cX13_feeding 9 = .ok (.invokespecial 30, 3) := dk_183 0 30 (dk_at dksX13_feeding_0 9 rfl rfl)
theorem dX13_feeding_12 : decode cX13_feeding 12 = .ok (.aload_n 0, 1) := dk_42 (dk_at dksX13_feeding_0 12 rfl rfl)
theorem dX13_feeding_13 : decode cX13_feeding 13 = .ok (.getfield 9, 3) := dk_180 0 9 (dk_at dksX13_feeding_0 13 rfl rfl)
theorem dX13_feeding_16 : decode cX13_feeding 16 = .ok (.iadd, 1) := dk_96 (dk_at dksX13_feeding_0 16 rfl rfl)
theorem dX13_feeding_17 : decode cX13_feeding 17 = .ok (.ireturn, 1) := dk_172 (dk_at dksX13_feeding_0 17 rfl rfl)
theorem q103 : (Jvm.Cond.initialized "HamsterWeekends$Good") ∈ lw_all := lw_g (lw_at lw_m1 24 rfl) rfl
theorem q603 : (Jvm.Cond.instanceMethod ({ cls := "HamsterWeekends$Good", name := "more", desc := "()I" } : Jvm.MethodName)) ∈ lw_all := lw_g (lw_at lw_m3 44 rfl) rfl
theorem q604 : (Jvm.Cond.selects "HamsterWeekends$Good" ({ cls := "HamsterWeekends$Good", name := "more", desc := "()I" } : Jvm.MethodName) ({ cls := "HamsterWeekends$Good", name := "more", desc := "()I" } : Jvm.MethodName)) ∈ lw_all := lw_g (lw_at lw_m3 45 rfl) rfl
theorem q605 : (Jvm.Cond.sameMethod "HamsterWeekends$Good" "HamsterWeekends$Good" "more" "()I") ∈ lw_all := lw_g (lw_at lw_m3 46 rfl) rfl
theorem q611 : (Jvm.Cond.code ({ cls := "HamsterWeekends$Good", name := "more", desc := "()I" } : Jvm.MethodName) prog_8_method_3_code (1 : Nat) (Option.some Jvm.ClassFile.FieldType.int)) ∈ lw_all := lw_g (lw_at lw_m3 52 rfl) rfl
theorem q657 : (Jvm.Cond.instantiable "HamsterWeekends$Good" (2 : Nat)) ∈ lw_all := lw_g (lw_at lw_m3 98 rfl) rfl
theorem q659 : (Jvm.Cond.instanceMethod ({ cls := "HamsterWeekends$Good", name := "<init>", desc := "(II)V" } : Jvm.MethodName)) ∈ lw_all := lw_g (lw_at lw_m3 100 rfl) rfl
theorem q660 : (Jvm.Cond.code ({ cls := "HamsterWeekends$Good", name := "<init>", desc := "(II)V" } : Jvm.MethodName) prog_8_method_1_code (3 : Nat) (Option.none : Option Jvm.ClassFile.FieldType)) ∈ lw_all := lw_g (lw_at lw_m3 101 rfl) rfl
theorem q661 : (Jvm.Cond.methodLink "HamsterWeekends$Good" (3 : Nat) ({ cls := "HamsterWeekends$Home", name := "<init>", desc := "(II)V" } : Jvm.MethodName)) ∈ lw_all := lw_g (lw_at lw_m3 102 rfl) rfl
theorem q671 : (Jvm.Cond.fieldLink "HamsterWeekends$Good" (9 : Nat) "HamsterWeekends$Good" "by" "I") ∈ lw_all := lw_g (lw_at lw_m3 112 rfl) rfl
theorem q672 : (Jvm.Cond.sameField "HamsterWeekends$Good" "HamsterWeekends$Home" "by" "I") ∈ lw_all := lw_g (lw_at lw_m3 113 rfl) rfl
theorem q680 : (Jvm.Cond.laysFinal "HamsterWeekends$Good" "HamsterWeekends$Home" "index" "I") ∈ lw_all := lw_g (lw_at lw_m3 121 rfl) rfl
theorem q682 : (Jvm.Cond.laysFinal "HamsterWeekends$Good" "HamsterWeekends$Home" "by" "I") ∈ lw_all := lw_g (lw_at lw_m3 123 rfl) rfl
theorem q684 : (Jvm.Cond.superclass "HamsterWeekends$Good" "HamsterWeekends$Home") ∈ lw_all := lw_g (lw_at lw_m3 125 rfl) rfl
theorem q756 : (Jvm.Cond.selects "HamsterWeekends$Good" ({ cls := "HamsterWeekends$Home", name := "kind", desc := "()I" } : Jvm.MethodName) ({ cls := "HamsterWeekends$Good", name := "kind", desc := "()I" } : Jvm.MethodName)) ∈ lw_all := lw_g (lw_at lw_m3 197 rfl) rfl
theorem q757 : (Jvm.Cond.instanceMethod ({ cls := "HamsterWeekends$Good", name := "kind", desc := "()I" } : Jvm.MethodName)) ∈ lw_all := lw_g (lw_at lw_m3 198 rfl) rfl
theorem q758 : (Jvm.Cond.code ({ cls := "HamsterWeekends$Good", name := "kind", desc := "()I" } : Jvm.MethodName) prog_8_method_2_code (1 : Nat) (Option.some Jvm.ClassFile.FieldType.int)) ∈ lw_all := lw_g (lw_at lw_m3 199 rfl) rfl
theorem q1015 : (Jvm.Cond.selects "HamsterWeekends$Good" ({ cls := "HamsterWeekends$Home", name := "weekend", desc := "(LHamsterWeekends$Pet;)V" } : Jvm.MethodName) ({ cls := "HamsterWeekends$Good", name := "weekend", desc := "(LHamsterWeekends$Pet;)V" } : Jvm.MethodName)) ∈ lw_all := lw_g (lw_at lw_m4 216 rfl) rfl
theorem q1016 : (Jvm.Cond.instanceMethod ({ cls := "HamsterWeekends$Good", name := "weekend", desc := "(LHamsterWeekends$Pet;)V" } : Jvm.MethodName)) ∈ lw_all := lw_g (lw_at lw_m4 217 rfl) rfl
theorem q1017 : (Jvm.Cond.code ({ cls := "HamsterWeekends$Good", name := "weekend", desc := "(LHamsterWeekends$Pet;)V" } : Jvm.MethodName) prog_8_method_4_code (2 : Nat) (Option.none : Option Jvm.ClassFile.FieldType)) ∈ lw_all := lw_g (lw_at lw_m4 218 rfl) rfl
theorem q1018 : (Jvm.Cond.methodLink "HamsterWeekends$Good" (15 : Nat) ({ cls := "HamsterWeekends$Good", name := "more", desc := "()I" } : Jvm.MethodName)) ∈ lw_all := lw_g (lw_at lw_m4 219 rfl) rfl
theorem q1019 : (Jvm.Cond.methodLink "HamsterWeekends$Good" (19 : Nat) ({ cls := "HamsterWeekends$Pet", name := "gains", desc := "(I)V" } : Jvm.MethodName)) ∈ lw_all := lw_g (lw_at lw_m4 220 rfl) rfl
theorem q1242 : (Jvm.Cond.selects "HamsterWeekends$Good" ({ cls := "HamsterWeekends$Home", name := "feeding", desc := "(ILHamsterWeekends$Trace;)I" } : Jvm.MethodName) ({ cls := "HamsterWeekends$Good", name := "feeding", desc := "(ILHamsterWeekends$Trace;)I" } : Jvm.MethodName)) ∈ lw_all := lw_g (lw_at lw_m5 203 rfl) rfl
theorem q1243 : (Jvm.Cond.instanceMethod ({ cls := "HamsterWeekends$Good", name := "feeding", desc := "(ILHamsterWeekends$Trace;)I" } : Jvm.MethodName)) ∈ lw_all := lw_g (lw_at lw_m5 204 rfl) rfl
theorem q1244 : (Jvm.Cond.code ({ cls := "HamsterWeekends$Good", name := "feeding", desc := "(ILHamsterWeekends$Trace;)I" } : Jvm.MethodName) prog_8_method_5_code (3 : Nat) (Option.some Jvm.ClassFile.FieldType.int)) ∈ lw_all := lw_g (lw_at lw_m5 205 rfl) rfl
theorem q1245 : (Jvm.Cond.methodLink "HamsterWeekends$Good" (25 : Nat) ({ cls := "HamsterWeekends$Trace", name := "runs", desc := "(I)V" } : Jvm.MethodName)) ∈ lw_all := lw_g (lw_at lw_m5 206 rfl) rfl
theorem q1246 : (Jvm.Cond.methodLink "HamsterWeekends$Good" (30 : Nat) ({ cls := "HamsterWeekends$Home", name := "feeding", desc := "(ILHamsterWeekends$Trace;)I" } : Jvm.MethodName)) ∈ lw_all := lw_g (lw_at lw_m5 207 rfl) rfl
theorem q1267 : (Jvm.Cond.selects "HamsterWeekends$Good" ({ cls := "HamsterWeekends$Home", name := "weighing", desc := "(ILHamsterWeekends$Trace;)I" } : Jvm.MethodName) ({ cls := "HamsterWeekends$Home", name := "weighing", desc := "(ILHamsterWeekends$Trace;)I" } : Jvm.MethodName)) ∈ lw_all := lw_g (lw_at lw_m5 228 rfl) rfl
theorem q1273 : (Jvm.Cond.sameMethod "HamsterWeekends$Good" "HamsterWeekends$Home" "weighing" "(ILHamsterWeekends$Trace;)I") ∈ lw_all := lw_g (lw_at lw_m5 234 rfl) rfl
theorem q1293 : (Jvm.Cond.selects "HamsterWeekends$Good" ({ cls := "HamsterWeekends$Home", name := "writing", desc := "(ILHamsterWeekends$Trace;)I" } : Jvm.MethodName) ({ cls := "HamsterWeekends$Home", name := "writing", desc := "(ILHamsterWeekends$Trace;)I" } : Jvm.MethodName)) ∈ lw_all := lw_g (lw_at lw_m6 14 rfl) rfl
theorem q1839 : (Jvm.Cond.castable "HamsterWeekends$Good" "HamsterWeekends$Home") ∈ lw_tbl := lw_at lw_m8 80 rfl
theorem in_X13 : ∀ w ∈ wsX130, w ∈ lw_all := lw_in wsX130 [680, 682] (by decide +kernel) (by decide +kernel)

/-! HamsterWeekends$Cat -/
set_option maxRecDepth 100000
def RX14 : String := "HamsterWeekends$Cat"
def TX14 : u_T := fun k => match k with
  | 0 => ("HamsterWeekends$Home", "index", "I", true)
  | _ => ("HamsterWeekends$Home", "by", "I", true)
def tyX14 : Nat → FieldType := fun k => match k with
  | 0 => .int
  | _ => .int
abbrev wsX140 : List Cond := u_ws RX14 TX14 2
theorem nmX14 : ∀ a, a < 2 → ∀ b, b < 2 → a ≠ b → (TX14 a).2.1 ≠ (TX14 b).2.1 := by decide +kernel
theorem tyX14_ok : ∀ k, k < 2 → parseFieldDescriptor (TX14 k).2.2.1 = some (tyX14 k) := by decide +kernel
abbrev cX14_frightens : ByteArray := prog_4_method_3_code
def yX14_frightens : MethodName := ⟨RX14, "frightens", "(I)I"⟩
def dkwX14_frightens_0 : List UInt8 := [16, 99, 27, 16, 10, 96, 42, 180, 0, 9, 96, 184, 0, 15, 172]
abbrev dktX14_frightens_0 : List UInt8 := dkwX14_frightens_0 ++ []
theorem dksX14_frightens_0 : cX14_frightens.data.toList.drop 0 = dktX14_frightens_0 := by decide +kernel
theorem dX14_frightens_0 : decode cX14_frightens 0 = .ok (.bipush 99, 2) := dk_16 99 (dk_at dksX14_frightens_0 0 rfl rfl)
theorem dX14_frightens_2 : decode cX14_frightens 2 = .ok (.iload_n 1, 1) := dk_27 (dk_at dksX14_frightens_0 2 rfl rfl)
theorem dX14_frightens_3 : decode cX14_frightens 3 = .ok (.bipush 10, 2) := dk_16 10 (dk_at dksX14_frightens_0 3 rfl rfl)
theorem dX14_frightens_5 : decode cX14_frightens 5 = .ok (.iadd, 1) := dk_96 (dk_at dksX14_frightens_0 5 rfl rfl)
theorem dX14_frightens_6 : decode cX14_frightens 6 = .ok (.aload_n 0, 1) := dk_42 (dk_at dksX14_frightens_0 6 rfl rfl)
theorem dX14_frightens_7 : decode cX14_frightens 7 = .ok (.getfield 9, 3) := dk_180 0 9 (dk_at dksX14_frightens_0 7 rfl rfl)
theorem dX14_frightens_10 : decode cX14_frightens 10 = .ok (.iadd, 1) := dk_96 (dk_at dksX14_frightens_0 10 rfl rfl)
theorem dX14_frightens_11 : decode cX14_frightens 11 = .ok (.invokestatic 15, 3) := dk_184 0 15 (dk_at dksX14_frightens_0 11 rfl rfl)
theorem dX14_frightens_14 : decode cX14_frightens 14 = .ok (.ireturn, 1) := dk_172 (dk_at dksX14_frightens_0 14 rfl rfl)
abbrev cX14_init : ByteArray := prog_4_method_1_code
def yX14_init : MethodName := ⟨RX14, "<init>", "(II)V"⟩
def dkwX14_init_0 : List UInt8 := [42, 27, 28, 183, 0, 3, 177]
abbrev dktX14_init_0 : List UInt8 := dkwX14_init_0 ++ []
theorem dksX14_init_0 : cX14_init.data.toList.drop 0 = dktX14_init_0 := by decide +kernel
theorem dX14_init_0 : decode cX14_init 0 = .ok (.aload_n 0, 1) := dk_42 (dk_at dksX14_init_0 0 rfl rfl)
theorem dX14_init_1 : decode cX14_init 1 = .ok (.iload_n 1, 1) := dk_27 (dk_at dksX14_init_0 1 rfl rfl)
theorem dX14_init_2 : decode cX14_init 2 = .ok (.iload_n 2, 1) := dk_28 (dk_at dksX14_init_0 2 rfl rfl)
theorem dX14_init_3 : decode cX14_init 3 = .ok (.invokespecial 3, 3) := dk_183 0 3 (dk_at dksX14_init_0 3 rfl rfl)
theorem dX14_init_6 : decode cX14_init 6 = .ok (.return_, 1) := dk_177 (dk_at dksX14_init_0 6 rfl rfl)
abbrev cX14_kind : ByteArray := prog_4_method_2_code
def yX14_kind : MethodName := ⟨RX14, "kind", "()I"⟩
theorem dX14_kind_0 : decode cX14_kind 0 = .ok (.iconst 2, 1) := by decide +kernel
theorem dX14_kind_1 : decode cX14_kind 1 = .ok (.ireturn, 1) := by decide +kernel
abbrev cX14_weekend : ByteArray := prog_4_method_4_code
def yX14_weekend : MethodName := ⟨RX14, "weekend", "(LHamsterWeekends$Pet;)V"⟩
def dkwX14_weekend_0 : List UInt8 := [42, 43, 183, 0, 21, 43, 42, 43, 180, 0, 25, 182, 0, 30, 181, 0, 25, 177]
abbrev dktX14_weekend_0 : List UInt8 := dkwX14_weekend_0 ++ []
theorem dksX14_weekend_0 : cX14_weekend.data.toList.drop 0 = dktX14_weekend_0 := by decide +kernel
theorem dX14_weekend_0 : decode cX14_weekend 0 = .ok (.aload_n 0, 1) := dk_42 (dk_at dksX14_weekend_0 0 rfl rfl)
theorem dX14_weekend_1 : decode cX14_weekend 1 = .ok (.aload_n 1, 1) := dk_43 (dk_at dksX14_weekend_0 1 rfl rfl)
theorem dX14_weekend_2 : decode cX14_weekend 2 = .ok (.invokespecial 21, 3) := dk_183 0 21 (dk_at dksX14_weekend_0 2 rfl rfl)
theorem dX14_weekend_5 : decode cX14_weekend 5 = .ok (.aload_n 1, 1) := dk_43 (dk_at dksX14_weekend_0 5 rfl rfl)
theorem dX14_weekend_6 : decode cX14_weekend 6 = .ok (.aload_n 0, 1) := dk_42 (dk_at dksX14_weekend_0 6 rfl rfl)
theorem dX14_weekend_7 : decode cX14_weekend 7 = .ok (.aload_n 1, 1) := dk_43 (dk_at dksX14_weekend_0 7 rfl rfl)
theorem dX14_weekend_8 : decode cX14_weekend 8 = .ok (.getfield 25, 3) := dk_180 0 25 (dk_at dksX14_weekend_0 8 rfl rfl)
theorem dX14_weekend_11 : decode cX14_weekend 11 = .ok (.invokevirtual 30, 3) := dk_182 0 30 (dk_at dksX14_weekend_0 11 rfl rfl)
theorem dX14_weekend_14 : decode cX14_weekend 14 = .ok (.putfield 25, 3) := dk_181 0 25 (dk_at dksX14_weekend_0 14 rfl rfl)
theorem dX14_weekend_17 : decode cX14_weekend 17 = .ok (.return_, 1) := dk_177 (dk_at dksX14_weekend_0 17 rfl rfl)
abbrev cX14_weighing : ByteArray := prog_4_method_5_code
def yX14_weighing : MethodName := ⟨RX14, "weighing", "(ILHamsterWeekends$Trace;)I"⟩
def dkwX14_weighing_0 : List UInt8 := [44, 16, 30, 182, 0, 34, 42, 27, 44, 183, 0, 40, 6, 104, 172]
abbrev dktX14_weighing_0 : List UInt8 := dkwX14_weighing_0 ++ []
theorem dksX14_weighing_0 : cX14_weighing.data.toList.drop 0 = dktX14_weighing_0 := by decide +kernel
theorem dX14_weighing_0 : decode cX14_weighing 0 = .ok (.aload_n 2, 1) := dk_44 (dk_at dksX14_weighing_0 0 rfl rfl)
theorem dX14_weighing_1 : decode cX14_weighing 1 = .ok (.bipush 30, 2) := dk_16 30 (dk_at dksX14_weighing_0 1 rfl rfl)
theorem dX14_weighing_3 : decode cX14_weighing 3 = .ok (.invokevirtual 34, 3) := dk_182 0 34 (dk_at dksX14_weighing_0 3 rfl rfl)
theorem dX14_weighing_6 : decode cX14_weighing 6 = .ok (.aload_n 0, 1) := dk_42 (dk_at dksX14_weighing_0 6 rfl rfl)
theorem dX14_weighing_7 : decode cX14_weighing 7 = .ok (.iload_n 1, 1) := dk_27 (dk_at dksX14_weighing_0 7 rfl rfl)
theorem dX14_weighing_8 : decode cX14_weighing 8 = .ok (.aload_n 2, 1) := dk_44 (dk_at dksX14_weighing_0 8 rfl rfl)
theorem dX14_weighing_9 : decode cX14_weighing 9 = .ok (.invokespecial 40, 3) := dk_183 0 40 (dk_at dksX14_weighing_0 9 rfl rfl)
theorem dX14_weighing_12 : decode cX14_weighing 12 = .ok (.iconst 3, 1) := dk_6 (dk_at dksX14_weighing_0 12 rfl rfl)
theorem dX14_weighing_13 : decode cX14_weighing 13 = .ok (.imul, 1) := dk_104 (dk_at dksX14_weighing_0 13 rfl rfl)
theorem dX14_weighing_14 : decode cX14_weighing 14 = .ok (.ireturn, 1) := dk_172 (dk_at dksX14_weighing_0 14 rfl rfl)
theorem q104 : (Jvm.Cond.initialized "HamsterWeekends$Cat") ∈ lw_all := lw_g (lw_at lw_m1 25 rfl) rfl
theorem q152 : (Jvm.Cond.fieldLink "HamsterWeekends$Cat" (25 : Nat) "HamsterWeekends$Pet" "fright" "I") ∈ lw_all := lw_g (lw_at lw_m1 73 rfl) rfl
theorem q614 : (Jvm.Cond.instanceMethod ({ cls := "HamsterWeekends$Cat", name := "frightens", desc := "(I)I" } : Jvm.MethodName)) ∈ lw_all := lw_g (lw_at lw_m3 55 rfl) rfl
theorem q615 : (Jvm.Cond.selects "HamsterWeekends$Cat" ({ cls := "HamsterWeekends$Cat", name := "frightens", desc := "(I)I" } : Jvm.MethodName) ({ cls := "HamsterWeekends$Cat", name := "frightens", desc := "(I)I" } : Jvm.MethodName)) ∈ lw_all := lw_g (lw_at lw_m3 56 rfl) rfl
theorem q616 : (Jvm.Cond.sameMethod "HamsterWeekends$Cat" "HamsterWeekends$Cat" "frightens" "(I)I") ∈ lw_all := lw_g (lw_at lw_m3 57 rfl) rfl
theorem q625 : (Jvm.Cond.code ({ cls := "HamsterWeekends$Cat", name := "frightens", desc := "(I)I" } : Jvm.MethodName) prog_4_method_3_code (2 : Nat) (Option.some Jvm.ClassFile.FieldType.int)) ∈ lw_all := lw_g (lw_at lw_m3 66 rfl) rfl
theorem q626 : (Jvm.Cond.methodLink "HamsterWeekends$Cat" (15 : Nat) ({ cls := "java/lang/Math", name := "min", desc := "(II)I" } : Jvm.MethodName)) ∈ lw_all := lw_g (lw_at lw_m3 67 rfl) rfl
theorem q675 : (Jvm.Cond.fieldLink "HamsterWeekends$Cat" (9 : Nat) "HamsterWeekends$Cat" "by" "I") ∈ lw_all := lw_g (lw_at lw_m3 116 rfl) rfl
theorem q676 : (Jvm.Cond.sameField "HamsterWeekends$Cat" "HamsterWeekends$Home" "by" "I") ∈ lw_all := lw_g (lw_at lw_m3 117 rfl) rfl
theorem q686 : (Jvm.Cond.instantiable "HamsterWeekends$Cat" (2 : Nat)) ∈ lw_all := lw_g (lw_at lw_m3 127 rfl) rfl
theorem q688 : (Jvm.Cond.instanceMethod ({ cls := "HamsterWeekends$Cat", name := "<init>", desc := "(II)V" } : Jvm.MethodName)) ∈ lw_all := lw_g (lw_at lw_m3 129 rfl) rfl
theorem q689 : (Jvm.Cond.code ({ cls := "HamsterWeekends$Cat", name := "<init>", desc := "(II)V" } : Jvm.MethodName) prog_4_method_1_code (3 : Nat) (Option.none : Option Jvm.ClassFile.FieldType)) ∈ lw_all := lw_g (lw_at lw_m3 130 rfl) rfl
theorem q690 : (Jvm.Cond.methodLink "HamsterWeekends$Cat" (3 : Nat) ({ cls := "HamsterWeekends$Home", name := "<init>", desc := "(II)V" } : Jvm.MethodName)) ∈ lw_all := lw_g (lw_at lw_m3 131 rfl) rfl
theorem q691 : (Jvm.Cond.laysFinal "HamsterWeekends$Cat" "HamsterWeekends$Home" "index" "I") ∈ lw_all := lw_g (lw_at lw_m3 132 rfl) rfl
theorem q692 : (Jvm.Cond.laysFinal "HamsterWeekends$Cat" "HamsterWeekends$Home" "by" "I") ∈ lw_all := lw_g (lw_at lw_m3 133 rfl) rfl
theorem q693 : (Jvm.Cond.superclass "HamsterWeekends$Cat" "HamsterWeekends$Home") ∈ lw_all := lw_g (lw_at lw_m3 134 rfl) rfl
theorem q747 : (Jvm.Cond.selects "HamsterWeekends$Cat" ({ cls := "HamsterWeekends$Home", name := "kind", desc := "()I" } : Jvm.MethodName) ({ cls := "HamsterWeekends$Cat", name := "kind", desc := "()I" } : Jvm.MethodName)) ∈ lw_all := lw_g (lw_at lw_m3 188 rfl) rfl
theorem q748 : (Jvm.Cond.instanceMethod ({ cls := "HamsterWeekends$Cat", name := "kind", desc := "()I" } : Jvm.MethodName)) ∈ lw_all := lw_g (lw_at lw_m3 189 rfl) rfl
theorem q749 : (Jvm.Cond.code ({ cls := "HamsterWeekends$Cat", name := "kind", desc := "()I" } : Jvm.MethodName) prog_4_method_2_code (1 : Nat) (Option.some Jvm.ClassFile.FieldType.int)) ∈ lw_all := lw_g (lw_at lw_m3 190 rfl) rfl
theorem q1008 : (Jvm.Cond.selects "HamsterWeekends$Cat" ({ cls := "HamsterWeekends$Home", name := "weekend", desc := "(LHamsterWeekends$Pet;)V" } : Jvm.MethodName) ({ cls := "HamsterWeekends$Cat", name := "weekend", desc := "(LHamsterWeekends$Pet;)V" } : Jvm.MethodName)) ∈ lw_all := lw_g (lw_at lw_m4 209 rfl) rfl
theorem q1009 : (Jvm.Cond.instanceMethod ({ cls := "HamsterWeekends$Cat", name := "weekend", desc := "(LHamsterWeekends$Pet;)V" } : Jvm.MethodName)) ∈ lw_all := lw_g (lw_at lw_m4 210 rfl) rfl
theorem q1010 : (Jvm.Cond.code ({ cls := "HamsterWeekends$Cat", name := "weekend", desc := "(LHamsterWeekends$Pet;)V" } : Jvm.MethodName) prog_4_method_4_code (2 : Nat) (Option.none : Option Jvm.ClassFile.FieldType)) ∈ lw_all := lw_g (lw_at lw_m4 211 rfl) rfl
theorem q1011 : (Jvm.Cond.methodLink "HamsterWeekends$Cat" (21 : Nat) ({ cls := "HamsterWeekends$Home", name := "weekend", desc := "(LHamsterWeekends$Pet;)V" } : Jvm.MethodName)) ∈ lw_all := lw_g (lw_at lw_m4 212 rfl) rfl
theorem q1012 : (Jvm.Cond.methodLink "HamsterWeekends$Cat" (30 : Nat) ({ cls := "HamsterWeekends$Cat", name := "frightens", desc := "(I)I" } : Jvm.MethodName)) ∈ lw_all := lw_g (lw_at lw_m4 213 rfl) rfl
theorem q1239 : (Jvm.Cond.selects "HamsterWeekends$Cat" ({ cls := "HamsterWeekends$Home", name := "feeding", desc := "(ILHamsterWeekends$Trace;)I" } : Jvm.MethodName) ({ cls := "HamsterWeekends$Home", name := "feeding", desc := "(ILHamsterWeekends$Trace;)I" } : Jvm.MethodName)) ∈ lw_all := lw_g (lw_at lw_m5 200 rfl) rfl
theorem q1260 : (Jvm.Cond.selects "HamsterWeekends$Cat" ({ cls := "HamsterWeekends$Home", name := "weighing", desc := "(ILHamsterWeekends$Trace;)I" } : Jvm.MethodName) ({ cls := "HamsterWeekends$Cat", name := "weighing", desc := "(ILHamsterWeekends$Trace;)I" } : Jvm.MethodName)) ∈ lw_all := lw_g (lw_at lw_m5 221 rfl) rfl
theorem q1261 : (Jvm.Cond.instanceMethod ({ cls := "HamsterWeekends$Cat", name := "weighing", desc := "(ILHamsterWeekends$Trace;)I" } : Jvm.MethodName)) ∈ lw_all := lw_g (lw_at lw_m5 222 rfl) rfl
theorem q1262 : (Jvm.Cond.code ({ cls := "HamsterWeekends$Cat", name := "weighing", desc := "(ILHamsterWeekends$Trace;)I" } : Jvm.MethodName) prog_4_method_5_code (3 : Nat) (Option.some Jvm.ClassFile.FieldType.int)) ∈ lw_all := lw_g (lw_at lw_m5 223 rfl) rfl
theorem q1263 : (Jvm.Cond.methodLink "HamsterWeekends$Cat" (34 : Nat) ({ cls := "HamsterWeekends$Trace", name := "runs", desc := "(I)V" } : Jvm.MethodName)) ∈ lw_all := lw_g (lw_at lw_m5 224 rfl) rfl
theorem q1264 : (Jvm.Cond.methodLink "HamsterWeekends$Cat" (40 : Nat) ({ cls := "HamsterWeekends$Home", name := "weighing", desc := "(ILHamsterWeekends$Trace;)I" } : Jvm.MethodName)) ∈ lw_all := lw_g (lw_at lw_m5 225 rfl) rfl
theorem q1284 : (Jvm.Cond.selects "HamsterWeekends$Cat" ({ cls := "HamsterWeekends$Home", name := "writing", desc := "(ILHamsterWeekends$Trace;)I" } : Jvm.MethodName) ({ cls := "HamsterWeekends$Home", name := "writing", desc := "(ILHamsterWeekends$Trace;)I" } : Jvm.MethodName)) ∈ lw_all := lw_g (lw_at lw_m6 5 rfl) rfl
theorem q1290 : (Jvm.Cond.sameMethod "HamsterWeekends$Cat" "HamsterWeekends$Home" "writing" "(ILHamsterWeekends$Trace;)I") ∈ lw_all := lw_g (lw_at lw_m6 11 rfl) rfl
theorem q1836 : (Jvm.Cond.castable "HamsterWeekends$Cat" "HamsterWeekends$Home") ∈ lw_tbl := lw_at lw_m8 77 rfl
theorem in_X14 : ∀ w ∈ wsX140, w ∈ lw_all := lw_in wsX140 [691, 692] (by decide +kernel) (by decide +kernel)

/-! HamsterWeekends$Overfed -/
set_option maxRecDepth 100000
def RX15 : String := "HamsterWeekends$Overfed"
def TX15 : u_T := fun k => match k with
  | 0 => ("HamsterWeekends$Home", "index", "I", true)
  | _ => ("HamsterWeekends$Home", "by", "I", true)
def tyX15 : Nat → FieldType := fun k => match k with
  | 0 => .int
  | _ => .int
abbrev wsX150 : List Cond := u_ws RX15 TX15 2
theorem nmX15 : ∀ a, a < 2 → ∀ b, b < 2 → a ≠ b → (TX15 a).2.1 ≠ (TX15 b).2.1 := by decide +kernel
theorem tyX15_ok : ∀ k, k < 2 → parseFieldDescriptor (TX15 k).2.2.1 = some (tyX15 k) := by decide +kernel
abbrev cX15_more : ByteArray := prog_12_method_3_code
def yX15_more : MethodName := ⟨RX15, "more", "()I"⟩
def dkwX15_more_0 : List UInt8 := [5, 42, 183, 0, 9, 104, 6, 96, 172]
abbrev dktX15_more_0 : List UInt8 := dkwX15_more_0 ++ []
theorem dksX15_more_0 : cX15_more.data.toList.drop 0 = dktX15_more_0 := by decide +kernel
theorem dX15_more_0 : decode cX15_more 0 = .ok (.iconst 2, 1) := dk_5 (dk_at dksX15_more_0 0 rfl rfl)
theorem dX15_more_1 : decode cX15_more 1 = .ok (.aload_n 0, 1) := dk_42 (dk_at dksX15_more_0 1 rfl rfl)
theorem dX15_more_2 : decode cX15_more 2 = .ok (.invokespecial 9, 3) := dk_183 0 9 (dk_at dksX15_more_0 2 rfl rfl)
theorem dX15_more_5 : decode cX15_more 5 = .ok (.imul, 1) := dk_104 (dk_at dksX15_more_0 5 rfl rfl)
theorem dX15_more_6 : decode cX15_more 6 = .ok (.iconst 3, 1) := dk_6 (dk_at dksX15_more_0 6 rfl rfl)
theorem dX15_more_7 : decode cX15_more 7 = .ok (.iadd, 1) := dk_96 (dk_at dksX15_more_0 7 rfl rfl)
theorem dX15_more_8 : decode cX15_more 8 = .ok (.ireturn, 1) := dk_172 (dk_at dksX15_more_0 8 rfl rfl)
abbrev cX15_init : ByteArray := prog_12_method_1_code
def yX15_init : MethodName := ⟨RX15, "<init>", "(II)V"⟩
def dkwX15_init_0 : List UInt8 := [42, 27, 28, 183, 0, 3, 177]
abbrev dktX15_init_0 : List UInt8 := dkwX15_init_0 ++ []
theorem dksX15_init_0 : cX15_init.data.toList.drop 0 = dktX15_init_0 := by decide +kernel
theorem dX15_init_0 : decode cX15_init 0 = .ok (.aload_n 0, 1) := dk_42 (dk_at dksX15_init_0 0 rfl rfl)
theorem dX15_init_1 : decode cX15_init 1 = .ok (.iload_n 1, 1) := dk_27 (dk_at dksX15_init_0 1 rfl rfl)
theorem dX15_init_2 : decode cX15_init 2 = .ok (.iload_n 2, 1) := dk_28 (dk_at dksX15_init_0 2 rfl rfl)
theorem dX15_init_3 : decode cX15_init 3 = .ok (.invokespecial 3, 3) := dk_183 0 3 (dk_at dksX15_init_0 3 rfl rfl)
theorem dX15_init_6 : decode cX15_init 6 = .ok (.return_, 1) := dk_177 (dk_at dksX15_init_0 6 rfl rfl)
abbrev cX15_kind : ByteArray := prog_12_method_2_code
def yX15_kind : MethodName := ⟨RX15, "kind", "()I"⟩
theorem dX15_kind_0 : decode cX15_kind 0 = .ok (.iconst 3, 1) := by decide +kernel
theorem dX15_kind_1 : decode cX15_kind 1 = .ok (.ireturn, 1) := by decide +kernel
abbrev cX15_weighing : ByteArray := prog_12_method_4_code
def yX15_weighing : MethodName := ⟨RX15, "weighing", "(ILHamsterWeekends$Trace;)I"⟩
def dkwX15_weighing_0 : List UInt8 := [44, 16, 40, 182, 0, 13, 42, 27, 4, 96, 44, 183, 0, 19, 172]
abbrev dktX15_weighing_0 : List UInt8 := dkwX15_weighing_0 ++ []
theorem dksX15_weighing_0 : cX15_weighing.data.toList.drop 0 = dktX15_weighing_0 := by decide +kernel
theorem dX15_weighing_0 : decode cX15_weighing 0 = .ok (.aload_n 2, 1) := dk_44 (dk_at dksX15_weighing_0 0 rfl rfl)
theorem dX15_weighing_1 : decode cX15_weighing 1 = .ok (.bipush 40, 2) := dk_16 40 (dk_at dksX15_weighing_0 1 rfl rfl)
theorem dX15_weighing_3 : decode cX15_weighing 3 = .ok (.invokevirtual 13, 3) := dk_182 0 13 (dk_at dksX15_weighing_0 3 rfl rfl)
theorem dX15_weighing_6 : decode cX15_weighing 6 = .ok (.aload_n 0, 1) := dk_42 (dk_at dksX15_weighing_0 6 rfl rfl)
theorem dX15_weighing_7 : decode cX15_weighing 7 = .ok (.iload_n 1, 1) := dk_27 (dk_at dksX15_weighing_0 7 rfl rfl)
theorem dX15_weighing_8 : decode cX15_weighing 8 = .ok (.iconst 1, 1) := dk_4 (dk_at dksX15_weighing_0 8 rfl rfl)
theorem dX15_weighing_9 : decode cX15_weighing 9 = .ok (.iadd, 1) := dk_96 (dk_at dksX15_weighing_0 9 rfl rfl)
theorem dX15_weighing_10 : decode cX15_weighing 10 = .ok (.aload_n 2, 1) := dk_44 (dk_at dksX15_weighing_0 10 rfl rfl)
theorem dX15_weighing_11 : decode cX15_weighing 11 = .ok (.invokespecial 19, 3) := dk_183 0 19 (dk_at dksX15_weighing_0 11 rfl rfl)
theorem dX15_weighing_14 : decode cX15_weighing 14 = .ok (.ireturn, 1) := dk_172 (dk_at dksX15_weighing_0 14 rfl rfl)
theorem q105 : (Jvm.Cond.initialized "HamsterWeekends$Overfed") ∈ lw_all := lw_g (lw_at lw_m1 26 rfl) rfl
theorem q606 : (Jvm.Cond.selects "HamsterWeekends$Overfed" ({ cls := "HamsterWeekends$Good", name := "more", desc := "()I" } : Jvm.MethodName) ({ cls := "HamsterWeekends$Overfed", name := "more", desc := "()I" } : Jvm.MethodName)) ∈ lw_all := lw_g (lw_at lw_m3 47 rfl) rfl
theorem q607 : (Jvm.Cond.instanceMethod ({ cls := "HamsterWeekends$Overfed", name := "more", desc := "()I" } : Jvm.MethodName)) ∈ lw_all := lw_g (lw_at lw_m3 48 rfl) rfl
theorem q608 : (Jvm.Cond.code ({ cls := "HamsterWeekends$Overfed", name := "more", desc := "()I" } : Jvm.MethodName) prog_12_method_3_code (1 : Nat) (Option.some Jvm.ClassFile.FieldType.int)) ∈ lw_all := lw_g (lw_at lw_m3 49 rfl) rfl
theorem q609 : (Jvm.Cond.methodLink "HamsterWeekends$Overfed" (9 : Nat) ({ cls := "HamsterWeekends$Good", name := "more", desc := "()I" } : Jvm.MethodName)) ∈ lw_all := lw_g (lw_at lw_m3 50 rfl) rfl
theorem q610 : (Jvm.Cond.superclass "HamsterWeekends$Overfed" "HamsterWeekends$Good") ∈ lw_all := lw_g (lw_at lw_m3 51 rfl) rfl
theorem q695 : (Jvm.Cond.instantiable "HamsterWeekends$Overfed" (2 : Nat)) ∈ lw_all := lw_g (lw_at lw_m3 136 rfl) rfl
theorem q697 : (Jvm.Cond.instanceMethod ({ cls := "HamsterWeekends$Overfed", name := "<init>", desc := "(II)V" } : Jvm.MethodName)) ∈ lw_all := lw_g (lw_at lw_m3 138 rfl) rfl
theorem q698 : (Jvm.Cond.code ({ cls := "HamsterWeekends$Overfed", name := "<init>", desc := "(II)V" } : Jvm.MethodName) prog_12_method_1_code (3 : Nat) (Option.none : Option Jvm.ClassFile.FieldType)) ∈ lw_all := lw_g (lw_at lw_m3 139 rfl) rfl
theorem q699 : (Jvm.Cond.methodLink "HamsterWeekends$Overfed" (3 : Nat) ({ cls := "HamsterWeekends$Good", name := "<init>", desc := "(II)V" } : Jvm.MethodName)) ∈ lw_all := lw_g (lw_at lw_m3 140 rfl) rfl
theorem q700 : (Jvm.Cond.laysFinal "HamsterWeekends$Overfed" "HamsterWeekends$Home" "index" "I") ∈ lw_all := lw_g (lw_at lw_m3 141 rfl) rfl
theorem q701 : (Jvm.Cond.laysFinal "HamsterWeekends$Overfed" "HamsterWeekends$Home" "by" "I") ∈ lw_all := lw_g (lw_at lw_m3 142 rfl) rfl
theorem q759 : (Jvm.Cond.selects "HamsterWeekends$Overfed" ({ cls := "HamsterWeekends$Home", name := "kind", desc := "()I" } : Jvm.MethodName) ({ cls := "HamsterWeekends$Overfed", name := "kind", desc := "()I" } : Jvm.MethodName)) ∈ lw_all := lw_g (lw_at lw_m3 200 rfl) rfl
theorem q760 : (Jvm.Cond.instanceMethod ({ cls := "HamsterWeekends$Overfed", name := "kind", desc := "()I" } : Jvm.MethodName)) ∈ lw_all := lw_g (lw_at lw_m3 201 rfl) rfl
theorem q761 : (Jvm.Cond.code ({ cls := "HamsterWeekends$Overfed", name := "kind", desc := "()I" } : Jvm.MethodName) prog_12_method_2_code (1 : Nat) (Option.some Jvm.ClassFile.FieldType.int)) ∈ lw_all := lw_g (lw_at lw_m3 202 rfl) rfl
theorem q1020 : (Jvm.Cond.selects "HamsterWeekends$Overfed" ({ cls := "HamsterWeekends$Home", name := "weekend", desc := "(LHamsterWeekends$Pet;)V" } : Jvm.MethodName) ({ cls := "HamsterWeekends$Good", name := "weekend", desc := "(LHamsterWeekends$Pet;)V" } : Jvm.MethodName)) ∈ lw_all := lw_g (lw_at lw_m4 221 rfl) rfl
theorem q1247 : (Jvm.Cond.selects "HamsterWeekends$Overfed" ({ cls := "HamsterWeekends$Home", name := "feeding", desc := "(ILHamsterWeekends$Trace;)I" } : Jvm.MethodName) ({ cls := "HamsterWeekends$Good", name := "feeding", desc := "(ILHamsterWeekends$Trace;)I" } : Jvm.MethodName)) ∈ lw_all := lw_g (lw_at lw_m5 208 rfl) rfl
theorem q1268 : (Jvm.Cond.selects "HamsterWeekends$Overfed" ({ cls := "HamsterWeekends$Home", name := "weighing", desc := "(ILHamsterWeekends$Trace;)I" } : Jvm.MethodName) ({ cls := "HamsterWeekends$Overfed", name := "weighing", desc := "(ILHamsterWeekends$Trace;)I" } : Jvm.MethodName)) ∈ lw_all := lw_g (lw_at lw_m5 229 rfl) rfl
theorem q1269 : (Jvm.Cond.instanceMethod ({ cls := "HamsterWeekends$Overfed", name := "weighing", desc := "(ILHamsterWeekends$Trace;)I" } : Jvm.MethodName)) ∈ lw_all := lw_g (lw_at lw_m5 230 rfl) rfl
theorem q1270 : (Jvm.Cond.code ({ cls := "HamsterWeekends$Overfed", name := "weighing", desc := "(ILHamsterWeekends$Trace;)I" } : Jvm.MethodName) prog_12_method_4_code (3 : Nat) (Option.some Jvm.ClassFile.FieldType.int)) ∈ lw_all := lw_g (lw_at lw_m5 231 rfl) rfl
theorem q1271 : (Jvm.Cond.methodLink "HamsterWeekends$Overfed" (13 : Nat) ({ cls := "HamsterWeekends$Trace", name := "runs", desc := "(I)V" } : Jvm.MethodName)) ∈ lw_all := lw_g (lw_at lw_m5 232 rfl) rfl
theorem q1272 : (Jvm.Cond.methodLink "HamsterWeekends$Overfed" (19 : Nat) ({ cls := "HamsterWeekends$Good", name := "weighing", desc := "(ILHamsterWeekends$Trace;)I" } : Jvm.MethodName)) ∈ lw_all := lw_g (lw_at lw_m5 233 rfl) rfl
theorem q1294 : (Jvm.Cond.selects "HamsterWeekends$Overfed" ({ cls := "HamsterWeekends$Home", name := "writing", desc := "(ILHamsterWeekends$Trace;)I" } : Jvm.MethodName) ({ cls := "HamsterWeekends$Home", name := "writing", desc := "(ILHamsterWeekends$Trace;)I" } : Jvm.MethodName)) ∈ lw_all := lw_g (lw_at lw_m6 15 rfl) rfl
theorem q1826 : (Jvm.Cond.selects "HamsterWeekends$Overfed" ({ cls := "HamsterWeekends$Overfed", name := "more", desc := "()I" } : Jvm.MethodName) ({ cls := "HamsterWeekends$Overfed", name := "more", desc := "()I" } : Jvm.MethodName)) ∈ lw_all := lw_g (lw_at lw_m8 67 rfl) rfl
theorem q1840 : (Jvm.Cond.castable "HamsterWeekends$Overfed" "HamsterWeekends$Home") ∈ lw_tbl := lw_at lw_m8 81 rfl
theorem q1841 : (Jvm.Cond.castable "HamsterWeekends$Overfed" "HamsterWeekends$Good") ∈ lw_tbl := lw_at lw_m8 82 rfl
theorem in_X15 : ∀ w ∈ wsX150, w ∈ lw_all := lw_in wsX150 [700, 701] (by decide +kernel) (by decide +kernel)

/-! HamsterWeekends$Far -/
set_option maxRecDepth 100000
def RX16 : String := "HamsterWeekends$Far"
def TX16 : u_T := fun k => match k with
  | 0 => ("HamsterWeekends$Home", "index", "I", true)
  | _ => ("HamsterWeekends$Home", "by", "I", true)
def tyX16 : Nat → FieldType := fun k => match k with
  | 0 => .int
  | _ => .int
abbrev wsX160 : List Cond := u_ws RX16 TX16 2
theorem nmX16 : ∀ a, a < 2 → ∀ b, b < 2 → a ≠ b → (TX16 a).2.1 ≠ (TX16 b).2.1 := by decide +kernel
theorem tyX16_ok : ∀ k, k < 2 → parseFieldDescriptor (TX16 k).2.2.1 = some (tyX16 k) := by decide +kernel
abbrev cX16_less : ByteArray := prog_6_method_3_code
def yX16_less : MethodName := ⟨RX16, "less", "(I)I"⟩
def dkwX16_less_0 : List UInt8 := [5, 42, 180, 0, 9, 104, 172]
abbrev dktX16_less_0 : List UInt8 := dkwX16_less_0 ++ []
theorem dksX16_less_0 : cX16_less.data.toList.drop 0 = dktX16_less_0 := by decide +kernel
theorem dX16_less_0 : decode cX16_less 0 = .ok (.iconst 2, 1) := dk_5 (dk_at dksX16_less_0 0 rfl rfl)
theorem dX16_less_1 : decode cX16_less 1 = .ok (.aload_n 0, 1) := dk_42 (dk_at dksX16_less_0 1 rfl rfl)
theorem dX16_less_2 : decode cX16_less 2 = .ok (.getfield 9, 3) := dk_180 0 9 (dk_at dksX16_less_0 2 rfl rfl)
theorem dX16_less_5 : decode cX16_less 5 = .ok (.imul, 1) := dk_104 (dk_at dksX16_less_0 5 rfl rfl)
theorem dX16_less_6 : decode cX16_less 6 = .ok (.ireturn, 1) := dk_172 (dk_at dksX16_less_0 6 rfl rfl)
abbrev cX16_init : ByteArray := prog_6_method_1_code
def yX16_init : MethodName := ⟨RX16, "<init>", "(II)V"⟩
def dkwX16_init_0 : List UInt8 := [42, 27, 28, 183, 0, 3, 177]
abbrev dktX16_init_0 : List UInt8 := dkwX16_init_0 ++ []
theorem dksX16_init_0 : cX16_init.data.toList.drop 0 = dktX16_init_0 := by decide +kernel
theorem dX16_init_0 : decode cX16_init 0 = .ok (.aload_n 0, 1) := dk_42 (dk_at dksX16_init_0 0 rfl rfl)
theorem dX16_init_1 : decode cX16_init 1 = .ok (.iload_n 1, 1) := dk_27 (dk_at dksX16_init_0 1 rfl rfl)
theorem dX16_init_2 : decode cX16_init 2 = .ok (.iload_n 2, 1) := dk_28 (dk_at dksX16_init_0 2 rfl rfl)
theorem dX16_init_3 : decode cX16_init 3 = .ok (.invokespecial 3, 3) := dk_183 0 3 (dk_at dksX16_init_0 3 rfl rfl)
theorem dX16_init_6 : decode cX16_init 6 = .ok (.return_, 1) := dk_177 (dk_at dksX16_init_0 6 rfl rfl)
abbrev cX16_kind : ByteArray := prog_6_method_2_code
def yX16_kind : MethodName := ⟨RX16, "kind", "()I"⟩
theorem dX16_kind_0 : decode cX16_kind 0 = .ok (.iconst 4, 1) := by decide +kernel
theorem dX16_kind_1 : decode cX16_kind 1 = .ok (.ireturn, 1) := by decide +kernel
abbrev cX16_weekend : ByteArray := prog_6_method_4_code
def yX16_weekend : MethodName := ⟨RX16, "weekend", "(LHamsterWeekends$Pet;)V"⟩
def dkwX16_weekend_0 : List UInt8 := [43, 42, 43, 180, 0, 15, 182, 0, 20, 116, 182, 0, 24, 177]
abbrev dktX16_weekend_0 : List UInt8 := dkwX16_weekend_0 ++ []
theorem dksX16_weekend_0 : cX16_weekend.data.toList.drop 0 = dktX16_weekend_0 := by decide +kernel
theorem dX16_weekend_0 : decode cX16_weekend 0 = .ok (.aload_n 1, 1) := dk_43 (dk_at dksX16_weekend_0 0 rfl rfl)
theorem dX16_weekend_1 : decode cX16_weekend 1 = .ok (.aload_n 0, 1) := dk_42 (dk_at dksX16_weekend_0 1 rfl rfl)
theorem dX16_weekend_2 : decode cX16_weekend 2 = .ok (.aload_n 1, 1) := dk_43 (dk_at dksX16_weekend_0 2 rfl rfl)
theorem dX16_weekend_3 : decode cX16_weekend 3 = .ok (.getfield 15, 3) := dk_180 0 15 (dk_at dksX16_weekend_0 3 rfl rfl)
theorem dX16_weekend_6 : decode cX16_weekend 6 = .ok (.invokevirtual 20, 3) := dk_182 0 20 (dk_at dksX16_weekend_0 6 rfl rfl)
theorem dX16_weekend_9 : decode cX16_weekend 9 = .ok (.ineg, 1) := dk_116 (dk_at dksX16_weekend_0 9 rfl rfl)
theorem dX16_weekend_10 : decode cX16_weekend 10 = .ok (.invokevirtual 24, 3) := dk_182 0 24 (dk_at dksX16_weekend_0 10 rfl rfl)
theorem dX16_weekend_13 : decode cX16_weekend 13 = .ok (.return_, 1) := dk_177 (dk_at dksX16_weekend_0 13 rfl rfl)
abbrev cX16_feeding : ByteArray := prog_6_method_6_code
def yX16_feeding : MethodName := ⟨RX16, "feeding", "(ILHamsterWeekends$Trace;)I"⟩
def dkwX16_feeding_0 : List UInt8 := [44, 16, 51, 182, 0, 28, 42, 27, 44, 183, 0, 37, 42, 180, 0, 40, 100, 172]
abbrev dktX16_feeding_0 : List UInt8 := dkwX16_feeding_0 ++ []
theorem dksX16_feeding_0 : cX16_feeding.data.toList.drop 0 = dktX16_feeding_0 := by decide +kernel
theorem dX16_feeding_0 : decode cX16_feeding 0 = .ok (.aload_n 2, 1) := dk_44 (dk_at dksX16_feeding_0 0 rfl rfl)
theorem dX16_feeding_1 : decode cX16_feeding 1 = .ok (.bipush 51, 2) := dk_16 51 (dk_at dksX16_feeding_0 1 rfl rfl)
theorem dX16_feeding_3 : decode cX16_feeding 3 = .ok (.invokevirtual 28, 3) := dk_182 0 28 (dk_at dksX16_feeding_0 3 rfl rfl)
theorem dX16_feeding_6 : decode cX16_feeding 6 = .ok (.aload_n 0, 1) := dk_42 (dk_at dksX16_feeding_0 6 rfl rfl)
theorem dX16_feeding_7 : decode cX16_feeding 7 = .ok (.iload_n 1, 1) := dk_27 (dk_at dksX16_feeding_0 7 rfl rfl)
theorem dX16_feeding_8 : decode cX16_feeding 8 = .ok (.aload_n 2, 1) := dk_44 (dk_at dksX16_feeding_0 8 rfl rfl)
theorem dX16_feeding_9 : decode cX16_feeding 9 = .ok (.invokespecial 37, 3) := dk_183 0 37 (dk_at dksX16_feeding_0 9 rfl rfl)
theorem dX16_feeding_12 : decode cX16_feeding 12 = .ok (.aload_n 0, 1) := dk_42 (dk_at dksX16_feeding_0 12 rfl rfl)
theorem dX16_feeding_13 : decode cX16_feeding 13 = .ok (.getfield 40, 3) := dk_180 0 40 (dk_at dksX16_feeding_0 13 rfl rfl)
theorem dX16_feeding_16 : decode cX16_feeding 16 = .ok (.isub, 1) := dk_100 (dk_at dksX16_feeding_0 16 rfl rfl)
theorem dX16_feeding_17 : decode cX16_feeding 17 = .ok (.ireturn, 1) := dk_172 (dk_at dksX16_feeding_0 17 rfl rfl)
abbrev cX16_writing : ByteArray := prog_6_method_5_code
def yX16_writing : MethodName := ⟨RX16, "writing", "(ILHamsterWeekends$Trace;)I"⟩
def dkwX16_writing_0 : List UInt8 := [44, 16, 50, 182, 0, 28, 42, 27, 44, 183, 0, 33, 116, 172]
abbrev dktX16_writing_0 : List UInt8 := dkwX16_writing_0 ++ []
theorem dksX16_writing_0 : cX16_writing.data.toList.drop 0 = dktX16_writing_0 := by decide +kernel
theorem dX16_writing_0 : decode cX16_writing 0 = .ok (.aload_n 2, 1) := dk_44 (dk_at dksX16_writing_0 0 rfl rfl)
theorem dX16_writing_1 : decode cX16_writing 1 = .ok (.bipush 50, 2) := dk_16 50 (dk_at dksX16_writing_0 1 rfl rfl)
theorem dX16_writing_3 : decode cX16_writing 3 = .ok (.invokevirtual 28, 3) := dk_182 0 28 (dk_at dksX16_writing_0 3 rfl rfl)
theorem dX16_writing_6 : decode cX16_writing 6 = .ok (.aload_n 0, 1) := dk_42 (dk_at dksX16_writing_0 6 rfl rfl)
theorem dX16_writing_7 : decode cX16_writing 7 = .ok (.iload_n 1, 1) := dk_27 (dk_at dksX16_writing_0 7 rfl rfl)
theorem dX16_writing_8 : decode cX16_writing 8 = .ok (.aload_n 2, 1) := dk_44 (dk_at dksX16_writing_0 8 rfl rfl)
theorem dX16_writing_9 : decode cX16_writing 9 = .ok (.invokespecial 33, 3) := dk_183 0 33 (dk_at dksX16_writing_0 9 rfl rfl)
theorem dX16_writing_12 : decode cX16_writing 12 = .ok (.ineg, 1) := dk_116 (dk_at dksX16_writing_0 12 rfl rfl)
theorem dX16_writing_13 : decode cX16_writing 13 = .ok (.ireturn, 1) := dk_172 (dk_at dksX16_writing_0 13 rfl rfl)
theorem q106 : (Jvm.Cond.initialized "HamsterWeekends$Far") ∈ lw_all := lw_g (lw_at lw_m1 27 rfl) rfl
theorem q151 : (Jvm.Cond.fieldLink "HamsterWeekends$Far" (15 : Nat) "HamsterWeekends$Pet" "fright" "I") ∈ lw_all := lw_g (lw_at lw_m1 72 rfl) rfl
theorem q631 : (Jvm.Cond.instanceMethod ({ cls := "HamsterWeekends$Far", name := "less", desc := "(I)I" } : Jvm.MethodName)) ∈ lw_all := lw_g (lw_at lw_m3 72 rfl) rfl
theorem q632 : (Jvm.Cond.selects "HamsterWeekends$Far" ({ cls := "HamsterWeekends$Far", name := "less", desc := "(I)I" } : Jvm.MethodName) ({ cls := "HamsterWeekends$Far", name := "less", desc := "(I)I" } : Jvm.MethodName)) ∈ lw_all := lw_g (lw_at lw_m3 73 rfl) rfl
theorem q633 : (Jvm.Cond.sameMethod "HamsterWeekends$Far" "HamsterWeekends$Far" "less" "(I)I") ∈ lw_all := lw_g (lw_at lw_m3 74 rfl) rfl
theorem q639 : (Jvm.Cond.code ({ cls := "HamsterWeekends$Far", name := "less", desc := "(I)I" } : Jvm.MethodName) prog_6_method_3_code (2 : Nat) (Option.some Jvm.ClassFile.FieldType.int)) ∈ lw_all := lw_g (lw_at lw_m3 80 rfl) rfl
theorem q667 : (Jvm.Cond.fieldLink "HamsterWeekends$Far" (40 : Nat) "HamsterWeekends$Far" "index" "I") ∈ lw_all := lw_g (lw_at lw_m3 108 rfl) rfl
theorem q668 : (Jvm.Cond.sameField "HamsterWeekends$Far" "HamsterWeekends$Home" "index" "I") ∈ lw_all := lw_g (lw_at lw_m3 109 rfl) rfl
theorem q673 : (Jvm.Cond.fieldLink "HamsterWeekends$Far" (9 : Nat) "HamsterWeekends$Far" "by" "I") ∈ lw_all := lw_g (lw_at lw_m3 114 rfl) rfl
theorem q674 : (Jvm.Cond.sameField "HamsterWeekends$Far" "HamsterWeekends$Home" "by" "I") ∈ lw_all := lw_g (lw_at lw_m3 115 rfl) rfl
theorem q703 : (Jvm.Cond.instantiable "HamsterWeekends$Far" (2 : Nat)) ∈ lw_all := lw_g (lw_at lw_m3 144 rfl) rfl
theorem q705 : (Jvm.Cond.instanceMethod ({ cls := "HamsterWeekends$Far", name := "<init>", desc := "(II)V" } : Jvm.MethodName)) ∈ lw_all := lw_g (lw_at lw_m3 146 rfl) rfl
theorem q706 : (Jvm.Cond.code ({ cls := "HamsterWeekends$Far", name := "<init>", desc := "(II)V" } : Jvm.MethodName) prog_6_method_1_code (3 : Nat) (Option.none : Option Jvm.ClassFile.FieldType)) ∈ lw_all := lw_g (lw_at lw_m3 147 rfl) rfl
theorem q707 : (Jvm.Cond.methodLink "HamsterWeekends$Far" (3 : Nat) ({ cls := "HamsterWeekends$Home", name := "<init>", desc := "(II)V" } : Jvm.MethodName)) ∈ lw_all := lw_g (lw_at lw_m3 148 rfl) rfl
theorem q708 : (Jvm.Cond.laysFinal "HamsterWeekends$Far" "HamsterWeekends$Home" "index" "I") ∈ lw_all := lw_g (lw_at lw_m3 149 rfl) rfl
theorem q709 : (Jvm.Cond.laysFinal "HamsterWeekends$Far" "HamsterWeekends$Home" "by" "I") ∈ lw_all := lw_g (lw_at lw_m3 150 rfl) rfl
theorem q710 : (Jvm.Cond.superclass "HamsterWeekends$Far" "HamsterWeekends$Home") ∈ lw_all := lw_g (lw_at lw_m3 151 rfl) rfl
theorem q753 : (Jvm.Cond.selects "HamsterWeekends$Far" ({ cls := "HamsterWeekends$Home", name := "kind", desc := "()I" } : Jvm.MethodName) ({ cls := "HamsterWeekends$Far", name := "kind", desc := "()I" } : Jvm.MethodName)) ∈ lw_all := lw_g (lw_at lw_m3 194 rfl) rfl
theorem q754 : (Jvm.Cond.instanceMethod ({ cls := "HamsterWeekends$Far", name := "kind", desc := "()I" } : Jvm.MethodName)) ∈ lw_all := lw_g (lw_at lw_m3 195 rfl) rfl
theorem q755 : (Jvm.Cond.code ({ cls := "HamsterWeekends$Far", name := "kind", desc := "()I" } : Jvm.MethodName) prog_6_method_2_code (1 : Nat) (Option.some Jvm.ClassFile.FieldType.int)) ∈ lw_all := lw_g (lw_at lw_m3 196 rfl) rfl
theorem q1001 : (Jvm.Cond.instanceMethod ({ cls := "HamsterWeekends$Far", name := "weekend", desc := "(LHamsterWeekends$Pet;)V" } : Jvm.MethodName)) ∈ lw_all := lw_g (lw_at lw_m4 202 rfl) rfl
theorem q1002 : (Jvm.Cond.code ({ cls := "HamsterWeekends$Far", name := "weekend", desc := "(LHamsterWeekends$Pet;)V" } : Jvm.MethodName) prog_6_method_4_code (2 : Nat) (Option.none : Option Jvm.ClassFile.FieldType)) ∈ lw_all := lw_g (lw_at lw_m4 203 rfl) rfl
theorem q1003 : (Jvm.Cond.methodLink "HamsterWeekends$Far" (20 : Nat) ({ cls := "HamsterWeekends$Far", name := "less", desc := "(I)I" } : Jvm.MethodName)) ∈ lw_all := lw_g (lw_at lw_m4 204 rfl) rfl
theorem q1004 : (Jvm.Cond.methodLink "HamsterWeekends$Far" (24 : Nat) ({ cls := "HamsterWeekends$Pet", name := "gains", desc := "(I)V" } : Jvm.MethodName)) ∈ lw_all := lw_g (lw_at lw_m4 205 rfl) rfl
theorem q1014 : (Jvm.Cond.selects "HamsterWeekends$Far" ({ cls := "HamsterWeekends$Home", name := "weekend", desc := "(LHamsterWeekends$Pet;)V" } : Jvm.MethodName) ({ cls := "HamsterWeekends$Far", name := "weekend", desc := "(LHamsterWeekends$Pet;)V" } : Jvm.MethodName)) ∈ lw_all := lw_g (lw_at lw_m4 215 rfl) rfl
theorem q1235 : (Jvm.Cond.instanceMethod ({ cls := "HamsterWeekends$Far", name := "feeding", desc := "(ILHamsterWeekends$Trace;)I" } : Jvm.MethodName)) ∈ lw_all := lw_g (lw_at lw_m5 196 rfl) rfl
theorem q1236 : (Jvm.Cond.code ({ cls := "HamsterWeekends$Far", name := "feeding", desc := "(ILHamsterWeekends$Trace;)I" } : Jvm.MethodName) prog_6_method_6_code (3 : Nat) (Option.some Jvm.ClassFile.FieldType.int)) ∈ lw_all := lw_g (lw_at lw_m5 197 rfl) rfl
theorem q1237 : (Jvm.Cond.methodLink "HamsterWeekends$Far" (28 : Nat) ({ cls := "HamsterWeekends$Trace", name := "runs", desc := "(I)V" } : Jvm.MethodName)) ∈ lw_all := lw_g (lw_at lw_m5 198 rfl) rfl
theorem q1238 : (Jvm.Cond.methodLink "HamsterWeekends$Far" (37 : Nat) ({ cls := "HamsterWeekends$Home", name := "feeding", desc := "(ILHamsterWeekends$Trace;)I" } : Jvm.MethodName)) ∈ lw_all := lw_g (lw_at lw_m5 199 rfl) rfl
theorem q1241 : (Jvm.Cond.selects "HamsterWeekends$Far" ({ cls := "HamsterWeekends$Home", name := "feeding", desc := "(ILHamsterWeekends$Trace;)I" } : Jvm.MethodName) ({ cls := "HamsterWeekends$Far", name := "feeding", desc := "(ILHamsterWeekends$Trace;)I" } : Jvm.MethodName)) ∈ lw_all := lw_g (lw_at lw_m5 202 rfl) rfl
theorem q1258 : (Jvm.Cond.sameMethod "HamsterWeekends$Far" "HamsterWeekends$Home" "weighing" "(ILHamsterWeekends$Trace;)I") ∈ lw_all := lw_g (lw_at lw_m5 219 rfl) rfl
theorem q1266 : (Jvm.Cond.selects "HamsterWeekends$Far" ({ cls := "HamsterWeekends$Home", name := "weighing", desc := "(ILHamsterWeekends$Trace;)I" } : Jvm.MethodName) ({ cls := "HamsterWeekends$Home", name := "weighing", desc := "(ILHamsterWeekends$Trace;)I" } : Jvm.MethodName)) ∈ lw_all := lw_g (lw_at lw_m5 227 rfl) rfl
theorem q1281 : (Jvm.Cond.instanceMethod ({ cls := "HamsterWeekends$Far", name := "writing", desc := "(ILHamsterWeekends$Trace;)I" } : Jvm.MethodName)) ∈ lw_all := lw_g (lw_at lw_m6 2 rfl) rfl
theorem q1282 : (Jvm.Cond.code ({ cls := "HamsterWeekends$Far", name := "writing", desc := "(ILHamsterWeekends$Trace;)I" } : Jvm.MethodName) prog_6_method_5_code (3 : Nat) (Option.some Jvm.ClassFile.FieldType.int)) ∈ lw_all := lw_g (lw_at lw_m6 3 rfl) rfl
theorem q1283 : (Jvm.Cond.methodLink "HamsterWeekends$Far" (33 : Nat) ({ cls := "HamsterWeekends$Home", name := "writing", desc := "(ILHamsterWeekends$Trace;)I" } : Jvm.MethodName)) ∈ lw_all := lw_g (lw_at lw_m6 4 rfl) rfl
theorem q1292 : (Jvm.Cond.selects "HamsterWeekends$Far" ({ cls := "HamsterWeekends$Home", name := "writing", desc := "(ILHamsterWeekends$Trace;)I" } : Jvm.MethodName) ({ cls := "HamsterWeekends$Far", name := "writing", desc := "(ILHamsterWeekends$Trace;)I" } : Jvm.MethodName)) ∈ lw_all := lw_g (lw_at lw_m6 13 rfl) rfl
theorem q1829 : (Jvm.Cond.sameMethod "HamsterWeekends$Far" "HamsterWeekends$Far" "feeding" "(ILHamsterWeekends$Trace;)I") ∈ lw_all := lw_g (lw_at lw_m8 70 rfl) rfl
theorem q1838 : (Jvm.Cond.castable "HamsterWeekends$Far" "HamsterWeekends$Home") ∈ lw_tbl := lw_at lw_m8 79 rfl
theorem in_X16 : ∀ w ∈ wsX160, w ∈ lw_all := lw_in wsX160 [708, 709] (by decide +kernel) (by decide +kernel)

/-! HamsterWeekends$Dog -/
set_option maxRecDepth 100000
def RX17 : String := "HamsterWeekends$Dog"
def TX17 : u_T := fun k => match k with
  | 0 => ("HamsterWeekends$Home", "index", "I", true)
  | _ => ("HamsterWeekends$Home", "by", "I", true)
def tyX17 : Nat → FieldType := fun k => match k with
  | 0 => .int
  | _ => .int
abbrev wsX170 : List Cond := u_ws RX17 TX17 2
theorem nmX17 : ∀ a, a < 2 → ∀ b, b < 2 → a ≠ b → (TX17 a).2.1 ≠ (TX17 b).2.1 := by decide +kernel
theorem tyX17_ok : ∀ k, k < 2 → parseFieldDescriptor (TX17 k).2.2.1 = some (tyX17 k) := by decide +kernel
abbrev cX17_frightens : ByteArray := prog_5_method_3_code
def yX17_frightens : MethodName := ⟨RX17, "frightens", "(I)I"⟩
def dkwX17_frightens_0 : List UInt8 := [16, 99, 5, 42, 27, 183, 0, 9, 104, 184, 0, 13, 172]
abbrev dktX17_frightens_0 : List UInt8 := dkwX17_frightens_0 ++ []
theorem dksX17_frightens_0 : cX17_frightens.data.toList.drop 0 = dktX17_frightens_0 := by decide +kernel
theorem dX17_frightens_0 : decode cX17_frightens 0 = .ok (.bipush 99, 2) := dk_16 99 (dk_at dksX17_frightens_0 0 rfl rfl)
theorem dX17_frightens_2 : decode cX17_frightens 2 = .ok (.iconst 2, 1) := dk_5 (dk_at dksX17_frightens_0 2 rfl rfl)
theorem dX17_frightens_3 : decode cX17_frightens 3 = .ok (.aload_n 0, 1) := dk_42 (dk_at dksX17_frightens_0 3 rfl rfl)
theorem dX17_frightens_4 : decode cX17_frightens 4 = .ok (.iload_n 1, 1) := dk_27 (dk_at dksX17_frightens_0 4 rfl rfl)
theorem dX17_frightens_5 : decode cX17_frightens 5 = .ok (.invokespecial 9, 3) := dk_183 0 9 (dk_at dksX17_frightens_0 5 rfl rfl)
theorem dX17_frightens_8 : decode cX17_frightens 8 = .ok (.imul, 1) := dk_104 (dk_at dksX17_frightens_0 8 rfl rfl)
theorem dX17_frightens_9 : decode cX17_frightens 9 = .ok (.invokestatic 13, 3) := dk_184 0 13 (dk_at dksX17_frightens_0 9 rfl rfl)
theorem dX17_frightens_12 : decode cX17_frightens 12 = .ok (.ireturn, 1) := dk_172 (dk_at dksX17_frightens_0 12 rfl rfl)
abbrev cX17_init : ByteArray := prog_5_method_1_code
def yX17_init : MethodName := ⟨RX17, "<init>", "(II)V"⟩
def dkwX17_init_0 : List UInt8 := [42, 27, 28, 183, 0, 3, 177]
abbrev dktX17_init_0 : List UInt8 := dkwX17_init_0 ++ []
theorem dksX17_init_0 : cX17_init.data.toList.drop 0 = dktX17_init_0 := by decide +kernel
theorem dX17_init_0 : decode cX17_init 0 = .ok (.aload_n 0, 1) := dk_42 (dk_at dksX17_init_0 0 rfl rfl)
theorem dX17_init_1 : decode cX17_init 1 = .ok (.iload_n 1, 1) := dk_27 (dk_at dksX17_init_0 1 rfl rfl)
theorem dX17_init_2 : decode cX17_init 2 = .ok (.iload_n 2, 1) := dk_28 (dk_at dksX17_init_0 2 rfl rfl)
theorem dX17_init_3 : decode cX17_init 3 = .ok (.invokespecial 3, 3) := dk_183 0 3 (dk_at dksX17_init_0 3 rfl rfl)
theorem dX17_init_6 : decode cX17_init 6 = .ok (.return_, 1) := dk_177 (dk_at dksX17_init_0 6 rfl rfl)
abbrev cX17_kind : ByteArray := prog_5_method_2_code
def yX17_kind : MethodName := ⟨RX17, "kind", "()I"⟩
theorem dX17_kind_0 : decode cX17_kind 0 = .ok (.iconst 5, 1) := by decide +kernel
theorem dX17_kind_1 : decode cX17_kind 1 = .ok (.ireturn, 1) := by decide +kernel
abbrev cX17_writing : ByteArray := prog_5_method_4_code
def yX17_writing : MethodName := ⟨RX17, "writing", "(ILHamsterWeekends$Trace;)I"⟩
def dkwX17_writing_0 : List UInt8 := [44, 16, 60, 182, 0, 19, 42, 27, 44, 183, 0, 25, 8, 130, 172]
abbrev dktX17_writing_0 : List UInt8 := dkwX17_writing_0 ++ []
theorem dksX17_writing_0 : cX17_writing.data.toList.drop 0 = dktX17_writing_0 := by decide +kernel
theorem dX17_writing_0 : decode cX17_writing 0 = .ok (.aload_n 2, 1) := dk_44 (dk_at dksX17_writing_0 0 rfl rfl)
theorem dX17_writing_1 : decode cX17_writing 1 = .ok (.bipush 60, 2) := dk_16 60 (dk_at dksX17_writing_0 1 rfl rfl)
theorem dX17_writing_3 : decode cX17_writing 3 = .ok (.invokevirtual 19, 3) := dk_182 0 19 (dk_at dksX17_writing_0 3 rfl rfl)
theorem dX17_writing_6 : decode cX17_writing 6 = .ok (.aload_n 0, 1) := dk_42 (dk_at dksX17_writing_0 6 rfl rfl)
theorem dX17_writing_7 : decode cX17_writing 7 = .ok (.iload_n 1, 1) := dk_27 (dk_at dksX17_writing_0 7 rfl rfl)
theorem dX17_writing_8 : decode cX17_writing 8 = .ok (.aload_n 2, 1) := dk_44 (dk_at dksX17_writing_0 8 rfl rfl)
theorem dX17_writing_9 : decode cX17_writing 9 = .ok (.invokespecial 25, 3) := dk_183 0 25 (dk_at dksX17_writing_0 9 rfl rfl)
theorem dX17_writing_12 : decode cX17_writing 12 = .ok (.iconst 5, 1) := dk_8 (dk_at dksX17_writing_0 12 rfl rfl)
theorem dX17_writing_13 : decode cX17_writing 13 = .ok (.ixor, 1) := dk_130 (dk_at dksX17_writing_0 13 rfl rfl)
theorem dX17_writing_14 : decode cX17_writing 14 = .ok (.ireturn, 1) := dk_172 (dk_at dksX17_writing_0 14 rfl rfl)
theorem q107 : (Jvm.Cond.initialized "HamsterWeekends$Dog") ∈ lw_all := lw_g (lw_at lw_m1 28 rfl) rfl
theorem q617 : (Jvm.Cond.selects "HamsterWeekends$Dog" ({ cls := "HamsterWeekends$Cat", name := "frightens", desc := "(I)I" } : Jvm.MethodName) ({ cls := "HamsterWeekends$Dog", name := "frightens", desc := "(I)I" } : Jvm.MethodName)) ∈ lw_all := lw_g (lw_at lw_m3 58 rfl) rfl
theorem q618 : (Jvm.Cond.instanceMethod ({ cls := "HamsterWeekends$Dog", name := "frightens", desc := "(I)I" } : Jvm.MethodName)) ∈ lw_all := lw_g (lw_at lw_m3 59 rfl) rfl
theorem q619 : (Jvm.Cond.code ({ cls := "HamsterWeekends$Dog", name := "frightens", desc := "(I)I" } : Jvm.MethodName) prog_5_method_3_code (2 : Nat) (Option.some Jvm.ClassFile.FieldType.int)) ∈ lw_all := lw_g (lw_at lw_m3 60 rfl) rfl
theorem q620 : (Jvm.Cond.methodLink "HamsterWeekends$Dog" (9 : Nat) ({ cls := "HamsterWeekends$Cat", name := "frightens", desc := "(I)I" } : Jvm.MethodName)) ∈ lw_all := lw_g (lw_at lw_m3 61 rfl) rfl
theorem q621 : (Jvm.Cond.superclass "HamsterWeekends$Dog" "HamsterWeekends$Cat") ∈ lw_all := lw_g (lw_at lw_m3 62 rfl) rfl
theorem q622 : (Jvm.Cond.methodLink "HamsterWeekends$Dog" (13 : Nat) ({ cls := "java/lang/Math", name := "min", desc := "(II)I" } : Jvm.MethodName)) ∈ lw_all := lw_g (lw_at lw_m3 63 rfl) rfl
theorem q712 : (Jvm.Cond.instantiable "HamsterWeekends$Dog" (2 : Nat)) ∈ lw_all := lw_g (lw_at lw_m3 153 rfl) rfl
theorem q714 : (Jvm.Cond.instanceMethod ({ cls := "HamsterWeekends$Dog", name := "<init>", desc := "(II)V" } : Jvm.MethodName)) ∈ lw_all := lw_g (lw_at lw_m3 155 rfl) rfl
theorem q715 : (Jvm.Cond.code ({ cls := "HamsterWeekends$Dog", name := "<init>", desc := "(II)V" } : Jvm.MethodName) prog_5_method_1_code (3 : Nat) (Option.none : Option Jvm.ClassFile.FieldType)) ∈ lw_all := lw_g (lw_at lw_m3 156 rfl) rfl
theorem q716 : (Jvm.Cond.methodLink "HamsterWeekends$Dog" (3 : Nat) ({ cls := "HamsterWeekends$Cat", name := "<init>", desc := "(II)V" } : Jvm.MethodName)) ∈ lw_all := lw_g (lw_at lw_m3 157 rfl) rfl
theorem q717 : (Jvm.Cond.laysFinal "HamsterWeekends$Dog" "HamsterWeekends$Home" "index" "I") ∈ lw_all := lw_g (lw_at lw_m3 158 rfl) rfl
theorem q718 : (Jvm.Cond.laysFinal "HamsterWeekends$Dog" "HamsterWeekends$Home" "by" "I") ∈ lw_all := lw_g (lw_at lw_m3 159 rfl) rfl
theorem q750 : (Jvm.Cond.selects "HamsterWeekends$Dog" ({ cls := "HamsterWeekends$Home", name := "kind", desc := "()I" } : Jvm.MethodName) ({ cls := "HamsterWeekends$Dog", name := "kind", desc := "()I" } : Jvm.MethodName)) ∈ lw_all := lw_g (lw_at lw_m3 191 rfl) rfl
theorem q751 : (Jvm.Cond.instanceMethod ({ cls := "HamsterWeekends$Dog", name := "kind", desc := "()I" } : Jvm.MethodName)) ∈ lw_all := lw_g (lw_at lw_m3 192 rfl) rfl
theorem q752 : (Jvm.Cond.code ({ cls := "HamsterWeekends$Dog", name := "kind", desc := "()I" } : Jvm.MethodName) prog_5_method_2_code (1 : Nat) (Option.some Jvm.ClassFile.FieldType.int)) ∈ lw_all := lw_g (lw_at lw_m3 193 rfl) rfl
theorem q1013 : (Jvm.Cond.selects "HamsterWeekends$Dog" ({ cls := "HamsterWeekends$Home", name := "weekend", desc := "(LHamsterWeekends$Pet;)V" } : Jvm.MethodName) ({ cls := "HamsterWeekends$Cat", name := "weekend", desc := "(LHamsterWeekends$Pet;)V" } : Jvm.MethodName)) ∈ lw_all := lw_g (lw_at lw_m4 214 rfl) rfl
theorem q1240 : (Jvm.Cond.selects "HamsterWeekends$Dog" ({ cls := "HamsterWeekends$Home", name := "feeding", desc := "(ILHamsterWeekends$Trace;)I" } : Jvm.MethodName) ({ cls := "HamsterWeekends$Home", name := "feeding", desc := "(ILHamsterWeekends$Trace;)I" } : Jvm.MethodName)) ∈ lw_all := lw_g (lw_at lw_m5 201 rfl) rfl
theorem q1265 : (Jvm.Cond.selects "HamsterWeekends$Dog" ({ cls := "HamsterWeekends$Home", name := "weighing", desc := "(ILHamsterWeekends$Trace;)I" } : Jvm.MethodName) ({ cls := "HamsterWeekends$Cat", name := "weighing", desc := "(ILHamsterWeekends$Trace;)I" } : Jvm.MethodName)) ∈ lw_all := lw_g (lw_at lw_m5 226 rfl) rfl
theorem q1285 : (Jvm.Cond.selects "HamsterWeekends$Dog" ({ cls := "HamsterWeekends$Home", name := "writing", desc := "(ILHamsterWeekends$Trace;)I" } : Jvm.MethodName) ({ cls := "HamsterWeekends$Dog", name := "writing", desc := "(ILHamsterWeekends$Trace;)I" } : Jvm.MethodName)) ∈ lw_all := lw_g (lw_at lw_m6 6 rfl) rfl
theorem q1286 : (Jvm.Cond.instanceMethod ({ cls := "HamsterWeekends$Dog", name := "writing", desc := "(ILHamsterWeekends$Trace;)I" } : Jvm.MethodName)) ∈ lw_all := lw_g (lw_at lw_m6 7 rfl) rfl
theorem q1287 : (Jvm.Cond.code ({ cls := "HamsterWeekends$Dog", name := "writing", desc := "(ILHamsterWeekends$Trace;)I" } : Jvm.MethodName) prog_5_method_4_code (3 : Nat) (Option.some Jvm.ClassFile.FieldType.int)) ∈ lw_all := lw_g (lw_at lw_m6 8 rfl) rfl
theorem q1288 : (Jvm.Cond.methodLink "HamsterWeekends$Dog" (19 : Nat) ({ cls := "HamsterWeekends$Trace", name := "runs", desc := "(I)V" } : Jvm.MethodName)) ∈ lw_all := lw_g (lw_at lw_m6 9 rfl) rfl
theorem q1289 : (Jvm.Cond.methodLink "HamsterWeekends$Dog" (25 : Nat) ({ cls := "HamsterWeekends$Cat", name := "writing", desc := "(ILHamsterWeekends$Trace;)I" } : Jvm.MethodName)) ∈ lw_all := lw_g (lw_at lw_m6 10 rfl) rfl
theorem q1827 : (Jvm.Cond.selects "HamsterWeekends$Dog" ({ cls := "HamsterWeekends$Dog", name := "frightens", desc := "(I)I" } : Jvm.MethodName) ({ cls := "HamsterWeekends$Dog", name := "frightens", desc := "(I)I" } : Jvm.MethodName)) ∈ lw_all := lw_g (lw_at lw_m8 68 rfl) rfl
theorem q1837 : (Jvm.Cond.castable "HamsterWeekends$Dog" "HamsterWeekends$Home") ∈ lw_tbl := lw_at lw_m8 78 rfl
theorem q1842 : (Jvm.Cond.castable "HamsterWeekends$Dog" "HamsterWeekends$Cat") ∈ lw_tbl := lw_at lw_m8 83 rfl
theorem in_X17 : ∀ w ∈ wsX170, w ∈ lw_all := lw_in wsX170 [717, 718] (by decide +kernel) (by decide +kernel)

/-! HamsterWeekends$Bus -/
set_option maxRecDepth 100000
def RX18 : String := "HamsterWeekends$Bus"
def TX18 : u_T := fun k => match k with
  | 0 => ("HamsterWeekends$Home", "index", "I", true)
  | _ => ("HamsterWeekends$Home", "by", "I", true)
def tyX18 : Nat → FieldType := fun k => match k with
  | 0 => .int
  | _ => .int
abbrev wsX180 : List Cond := u_ws RX18 TX18 2
theorem nmX18 : ∀ a, a < 2 → ∀ b, b < 2 → a ≠ b → (TX18 a).2.1 ≠ (TX18 b).2.1 := by decide +kernel
theorem tyX18_ok : ∀ k, k < 2 → parseFieldDescriptor (TX18 k).2.2.1 = some (tyX18 k) := by decide +kernel
abbrev cX18_less : ByteArray := prog_2_method_3_code
def yX18_less : MethodName := ⟨RX18, "less", "(I)I"⟩
def dkwX18_less_0 : List UInt8 := [42, 27, 183, 0, 9, 27, 16, 20, 164, 0, 8, 16, 10, 167, 0, 4, 3, 96, 172]
abbrev dktX18_less_0 : List UInt8 := dkwX18_less_0 ++ []
theorem dksX18_less_0 : cX18_less.data.toList.drop 0 = dktX18_less_0 := by decide +kernel
theorem dX18_less_0 : decode cX18_less 0 = .ok (.aload_n 0, 1) := dk_42 (dk_at dksX18_less_0 0 rfl rfl)
theorem dX18_less_1 : decode cX18_less 1 = .ok (.iload_n 1, 1) := dk_27 (dk_at dksX18_less_0 1 rfl rfl)
theorem dX18_less_2 : decode cX18_less 2 = .ok (.invokespecial 9, 3) := dk_183 0 9 (dk_at dksX18_less_0 2 rfl rfl)
theorem dX18_less_5 : decode cX18_less 5 = .ok (.iload_n 1, 1) := dk_27 (dk_at dksX18_less_0 5 rfl rfl)
theorem dX18_less_6 : decode cX18_less 6 = .ok (.bipush 20, 2) := dk_16 20 (dk_at dksX18_less_0 6 rfl rfl)
theorem dX18_less_8 : decode cX18_less 8 = .ok (.if_icmp .le 8, 3) := dk_164 0 8 (dk_at dksX18_less_0 8 rfl rfl)
theorem dX18_less_11 : decode cX18_less 11 = .ok (.bipush 10, 2) := dk_16 10 (dk_at dksX18_less_0 11 rfl rfl)
theorem dX18_less_13 : decode cX18_less 13 = .ok (.goto 4, 3) := dk_167 0 4 (dk_at dksX18_less_0 13 rfl rfl)
theorem dX18_less_16 : decode cX18_less 16 = .ok (.iconst 0, 1) := dk_3 (dk_at dksX18_less_0 16 rfl rfl)
theorem dX18_less_17 : decode cX18_less 17 = .ok (.iadd, 1) := dk_96 (dk_at dksX18_less_0 17 rfl rfl)
theorem dX18_less_18 : decode cX18_less 18 = .ok (.ireturn, 1) := dk_172 (dk_at dksX18_less_0 18 rfl rfl)
abbrev cX18_init : ByteArray := prog_2_method_1_code
def yX18_init : MethodName := ⟨RX18, "<init>", "(II)V"⟩
def dkwX18_init_0 : List UInt8 := [42, 27, 28, 183, 0, 3, 177]
abbrev dktX18_init_0 : List UInt8 := dkwX18_init_0 ++ []
theorem dksX18_init_0 : cX18_init.data.toList.drop 0 = dktX18_init_0 := by decide +kernel
theorem dX18_init_0 : decode cX18_init 0 = .ok (.aload_n 0, 1) := dk_42 (dk_at dksX18_init_0 0 rfl rfl)
theorem dX18_init_1 : decode cX18_init 1 = .ok (.iload_n 1, 1) := dk_27 (dk_at dksX18_init_0 1 rfl rfl)
theorem dX18_init_2 : decode cX18_init 2 = .ok (.iload_n 2, 1) := dk_28 (dk_at dksX18_init_0 2 rfl rfl)
theorem dX18_init_3 : decode cX18_init 3 = .ok (.invokespecial 3, 3) := dk_183 0 3 (dk_at dksX18_init_0 3 rfl rfl)
theorem dX18_init_6 : decode cX18_init 6 = .ok (.return_, 1) := dk_177 (dk_at dksX18_init_0 6 rfl rfl)
abbrev cX18_kind : ByteArray := prog_2_method_2_code
def yX18_kind : MethodName := ⟨RX18, "kind", "()I"⟩
theorem dX18_kind_0 : decode cX18_kind 0 = .ok (.bipush 6, 2) := by decide +kernel
theorem dX18_kind_2 : decode cX18_kind 2 = .ok (.ireturn, 1) := by decide +kernel
abbrev cX18_feeding : ByteArray := prog_2_method_4_code
def yX18_feeding : MethodName := ⟨RX18, "feeding", "(ILHamsterWeekends$Trace;)I"⟩
def dkwX18_feeding_0 : List UInt8 := [44, 16, 70, 182, 0, 13, 42, 27, 44, 183, 0, 19, 5, 104, 172]
abbrev dktX18_feeding_0 : List UInt8 := dkwX18_feeding_0 ++ []
theorem dksX18_feeding_0 : cX18_feeding.data.toList.drop 0 = dktX18_feeding_0 := by decide +kernel
theorem dX18_feeding_0 : decode cX18_feeding 0 = .ok (.aload_n 2, 1) := dk_44 (dk_at dksX18_feeding_0 0 rfl rfl)
theorem dX18_feeding_1 : decode cX18_feeding 1 = .ok (.bipush 70, 2) := dk_16 70 (dk_at dksX18_feeding_0 1 rfl rfl)
theorem dX18_feeding_3 : decode cX18_feeding 3 = .ok (.invokevirtual 13, 3) := dk_182 0 13 (dk_at dksX18_feeding_0 3 rfl rfl)
theorem dX18_feeding_6 : decode cX18_feeding 6 = .ok (.aload_n 0, 1) := dk_42 (dk_at dksX18_feeding_0 6 rfl rfl)
theorem dX18_feeding_7 : decode cX18_feeding 7 = .ok (.iload_n 1, 1) := dk_27 (dk_at dksX18_feeding_0 7 rfl rfl)
theorem dX18_feeding_8 : decode cX18_feeding 8 = .ok (.aload_n 2, 1) := dk_44 (dk_at dksX18_feeding_0 8 rfl rfl)
theorem dX18_feeding_9 : decode cX18_feeding 9 = .ok (.invokespecial 19, 3) := dk_183 0 19 (dk_at dksX18_feeding_0 9 rfl rfl)
theorem dX18_feeding_12 : decode cX18_feeding 12 = .ok (.iconst 2, 1) := dk_5 (dk_at dksX18_feeding_0 12 rfl rfl)
theorem dX18_feeding_13 : decode cX18_feeding 13 = .ok (.imul, 1) := dk_104 (dk_at dksX18_feeding_0 13 rfl rfl)
theorem dX18_feeding_14 : decode cX18_feeding 14 = .ok (.ireturn, 1) := dk_172 (dk_at dksX18_feeding_0 14 rfl rfl)
abbrev cX18_weighing : ByteArray := prog_2_method_5_code
def yX18_weighing : MethodName := ⟨RX18, "weighing", "(ILHamsterWeekends$Trace;)I"⟩
def dkwX18_weighing_0 : List UInt8 := [44, 16, 71, 182, 0, 13, 42, 27, 42, 180, 0, 23, 100, 44, 183, 0, 29, 172]
abbrev dktX18_weighing_0 : List UInt8 := dkwX18_weighing_0 ++ []
theorem dksX18_weighing_0 : cX18_weighing.data.toList.drop 0 = dktX18_weighing_0 := by decide +kernel
theorem dX18_weighing_0 : decode cX18_weighing 0 = .ok (.aload_n 2, 1) := dk_44 (dk_at dksX18_weighing_0 0 rfl rfl)
theorem dX18_weighing_1 : decode cX18_weighing 1 = .ok (.bipush 71, 2) := dk_16 71 (dk_at dksX18_weighing_0 1 rfl rfl)
theorem dX18_weighing_3 : decode cX18_weighing 3 = .ok (.invokevirtual 13, 3) := dk_182 0 13 (dk_at dksX18_weighing_0 3 rfl rfl)
theorem dX18_weighing_6 : decode cX18_weighing 6 = .ok (.aload_n 0, 1) := dk_42 (dk_at dksX18_weighing_0 6 rfl rfl)
theorem dX18_weighing_7 : decode cX18_weighing 7 = .ok (.iload_n 1, 1) := dk_27 (dk_at dksX18_weighing_0 7 rfl rfl)
theorem dX18_weighing_8 : decode cX18_weighing 8 = .ok (.aload_n 0, 1) := dk_42 (dk_at dksX18_weighing_0 8 rfl rfl)
theorem dX18_weighing_9 : decode cX18_weighing 9 = .ok (.getfield 23, 3) := dk_180 0 23 (dk_at dksX18_weighing_0 9 rfl rfl)
theorem dX18_weighing_12 : decode cX18_weighing 12 = .ok (.isub, 1) := dk_100 (dk_at dksX18_weighing_0 12 rfl rfl)
theorem dX18_weighing_13 : decode cX18_weighing 13 = .ok (.aload_n 2, 1) := dk_44 (dk_at dksX18_weighing_0 13 rfl rfl)
theorem dX18_weighing_14 : decode cX18_weighing 14 = .ok (.invokespecial 29, 3) := dk_183 0 29 (dk_at dksX18_weighing_0 14 rfl rfl)
theorem dX18_weighing_17 : decode cX18_weighing 17 = .ok (.ireturn, 1) := dk_172 (dk_at dksX18_weighing_0 17 rfl rfl)
theorem q108 : (Jvm.Cond.initialized "HamsterWeekends$Bus") ∈ lw_all := lw_g (lw_at lw_m1 29 rfl) rfl
theorem q634 : (Jvm.Cond.selects "HamsterWeekends$Bus" ({ cls := "HamsterWeekends$Far", name := "less", desc := "(I)I" } : Jvm.MethodName) ({ cls := "HamsterWeekends$Bus", name := "less", desc := "(I)I" } : Jvm.MethodName)) ∈ lw_all := lw_g (lw_at lw_m3 75 rfl) rfl
theorem q635 : (Jvm.Cond.instanceMethod ({ cls := "HamsterWeekends$Bus", name := "less", desc := "(I)I" } : Jvm.MethodName)) ∈ lw_all := lw_g (lw_at lw_m3 76 rfl) rfl
theorem q636 : (Jvm.Cond.code ({ cls := "HamsterWeekends$Bus", name := "less", desc := "(I)I" } : Jvm.MethodName) prog_2_method_3_code (2 : Nat) (Option.some Jvm.ClassFile.FieldType.int)) ∈ lw_all := lw_g (lw_at lw_m3 77 rfl) rfl
theorem q637 : (Jvm.Cond.methodLink "HamsterWeekends$Bus" (9 : Nat) ({ cls := "HamsterWeekends$Far", name := "less", desc := "(I)I" } : Jvm.MethodName)) ∈ lw_all := lw_g (lw_at lw_m3 78 rfl) rfl
theorem q638 : (Jvm.Cond.superclass "HamsterWeekends$Bus" "HamsterWeekends$Far") ∈ lw_all := lw_g (lw_at lw_m3 79 rfl) rfl
theorem q677 : (Jvm.Cond.fieldLink "HamsterWeekends$Bus" (23 : Nat) "HamsterWeekends$Bus" "by" "I") ∈ lw_all := lw_g (lw_at lw_m3 118 rfl) rfl
theorem q678 : (Jvm.Cond.sameField "HamsterWeekends$Bus" "HamsterWeekends$Home" "by" "I") ∈ lw_all := lw_g (lw_at lw_m3 119 rfl) rfl
theorem q720 : (Jvm.Cond.instantiable "HamsterWeekends$Bus" (2 : Nat)) ∈ lw_all := lw_g (lw_at lw_m3 161 rfl) rfl
theorem q722 : (Jvm.Cond.instanceMethod ({ cls := "HamsterWeekends$Bus", name := "<init>", desc := "(II)V" } : Jvm.MethodName)) ∈ lw_all := lw_g (lw_at lw_m3 163 rfl) rfl
theorem q723 : (Jvm.Cond.code ({ cls := "HamsterWeekends$Bus", name := "<init>", desc := "(II)V" } : Jvm.MethodName) prog_2_method_1_code (3 : Nat) (Option.none : Option Jvm.ClassFile.FieldType)) ∈ lw_all := lw_g (lw_at lw_m3 164 rfl) rfl
theorem q724 : (Jvm.Cond.methodLink "HamsterWeekends$Bus" (3 : Nat) ({ cls := "HamsterWeekends$Far", name := "<init>", desc := "(II)V" } : Jvm.MethodName)) ∈ lw_all := lw_g (lw_at lw_m3 165 rfl) rfl
theorem q725 : (Jvm.Cond.laysFinal "HamsterWeekends$Bus" "HamsterWeekends$Home" "index" "I") ∈ lw_all := lw_g (lw_at lw_m3 166 rfl) rfl
theorem q726 : (Jvm.Cond.laysFinal "HamsterWeekends$Bus" "HamsterWeekends$Home" "by" "I") ∈ lw_all := lw_g (lw_at lw_m3 167 rfl) rfl
theorem q744 : (Jvm.Cond.selects "HamsterWeekends$Bus" ({ cls := "HamsterWeekends$Home", name := "kind", desc := "()I" } : Jvm.MethodName) ({ cls := "HamsterWeekends$Bus", name := "kind", desc := "()I" } : Jvm.MethodName)) ∈ lw_all := lw_g (lw_at lw_m3 185 rfl) rfl
theorem q745 : (Jvm.Cond.instanceMethod ({ cls := "HamsterWeekends$Bus", name := "kind", desc := "()I" } : Jvm.MethodName)) ∈ lw_all := lw_g (lw_at lw_m3 186 rfl) rfl
theorem q746 : (Jvm.Cond.code ({ cls := "HamsterWeekends$Bus", name := "kind", desc := "()I" } : Jvm.MethodName) prog_2_method_2_code (1 : Nat) (Option.some Jvm.ClassFile.FieldType.int)) ∈ lw_all := lw_g (lw_at lw_m3 187 rfl) rfl
theorem q1000 : (Jvm.Cond.selects "HamsterWeekends$Bus" ({ cls := "HamsterWeekends$Home", name := "weekend", desc := "(LHamsterWeekends$Pet;)V" } : Jvm.MethodName) ({ cls := "HamsterWeekends$Far", name := "weekend", desc := "(LHamsterWeekends$Pet;)V" } : Jvm.MethodName)) ∈ lw_all := lw_g (lw_at lw_m4 201 rfl) rfl
theorem q1227 : (Jvm.Cond.selects "HamsterWeekends$Bus" ({ cls := "HamsterWeekends$Home", name := "feeding", desc := "(ILHamsterWeekends$Trace;)I" } : Jvm.MethodName) ({ cls := "HamsterWeekends$Bus", name := "feeding", desc := "(ILHamsterWeekends$Trace;)I" } : Jvm.MethodName)) ∈ lw_all := lw_g (lw_at lw_m5 188 rfl) rfl
theorem q1228 : (Jvm.Cond.instanceMethod ({ cls := "HamsterWeekends$Bus", name := "feeding", desc := "(ILHamsterWeekends$Trace;)I" } : Jvm.MethodName)) ∈ lw_all := lw_g (lw_at lw_m5 189 rfl) rfl
theorem q1229 : (Jvm.Cond.code ({ cls := "HamsterWeekends$Bus", name := "feeding", desc := "(ILHamsterWeekends$Trace;)I" } : Jvm.MethodName) prog_2_method_4_code (3 : Nat) (Option.some Jvm.ClassFile.FieldType.int)) ∈ lw_all := lw_g (lw_at lw_m5 190 rfl) rfl
theorem q1230 : (Jvm.Cond.methodLink "HamsterWeekends$Bus" (13 : Nat) ({ cls := "HamsterWeekends$Trace", name := "runs", desc := "(I)V" } : Jvm.MethodName)) ∈ lw_all := lw_g (lw_at lw_m5 191 rfl) rfl
theorem q1234 : (Jvm.Cond.methodLink "HamsterWeekends$Bus" (19 : Nat) ({ cls := "HamsterWeekends$Far", name := "feeding", desc := "(ILHamsterWeekends$Trace;)I" } : Jvm.MethodName)) ∈ lw_all := lw_g (lw_at lw_m5 195 rfl) rfl
theorem q1254 : (Jvm.Cond.selects "HamsterWeekends$Bus" ({ cls := "HamsterWeekends$Home", name := "weighing", desc := "(ILHamsterWeekends$Trace;)I" } : Jvm.MethodName) ({ cls := "HamsterWeekends$Bus", name := "weighing", desc := "(ILHamsterWeekends$Trace;)I" } : Jvm.MethodName)) ∈ lw_all := lw_g (lw_at lw_m5 215 rfl) rfl
theorem q1255 : (Jvm.Cond.instanceMethod ({ cls := "HamsterWeekends$Bus", name := "weighing", desc := "(ILHamsterWeekends$Trace;)I" } : Jvm.MethodName)) ∈ lw_all := lw_g (lw_at lw_m5 216 rfl) rfl
theorem q1256 : (Jvm.Cond.code ({ cls := "HamsterWeekends$Bus", name := "weighing", desc := "(ILHamsterWeekends$Trace;)I" } : Jvm.MethodName) prog_2_method_5_code (3 : Nat) (Option.some Jvm.ClassFile.FieldType.int)) ∈ lw_all := lw_g (lw_at lw_m5 217 rfl) rfl
theorem q1257 : (Jvm.Cond.methodLink "HamsterWeekends$Bus" (29 : Nat) ({ cls := "HamsterWeekends$Far", name := "weighing", desc := "(ILHamsterWeekends$Trace;)I" } : Jvm.MethodName)) ∈ lw_all := lw_g (lw_at lw_m5 218 rfl) rfl
theorem q1280 : (Jvm.Cond.selects "HamsterWeekends$Bus" ({ cls := "HamsterWeekends$Home", name := "writing", desc := "(ILHamsterWeekends$Trace;)I" } : Jvm.MethodName) ({ cls := "HamsterWeekends$Far", name := "writing", desc := "(ILHamsterWeekends$Trace;)I" } : Jvm.MethodName)) ∈ lw_all := lw_g (lw_at lw_m6 1 rfl) rfl
theorem q1828 : (Jvm.Cond.selects "HamsterWeekends$Bus" ({ cls := "HamsterWeekends$Bus", name := "less", desc := "(I)I" } : Jvm.MethodName) ({ cls := "HamsterWeekends$Bus", name := "less", desc := "(I)I" } : Jvm.MethodName)) ∈ lw_all := lw_g (lw_at lw_m8 69 rfl) rfl
theorem q1835 : (Jvm.Cond.castable "HamsterWeekends$Bus" "HamsterWeekends$Home") ∈ lw_tbl := lw_at lw_m8 76 rfl
theorem q1843 : (Jvm.Cond.castable "HamsterWeekends$Bus" "HamsterWeekends$Far") ∈ lw_tbl := lw_at lw_m8 84 rfl
theorem in_X18 : ∀ w ∈ wsX180, w ∈ lw_all := lw_in wsX180 [725, 726] (by decide +kernel) (by decide +kernel)

/-! HamsterWeekends$Reader -/
set_option maxRecDepth 100000
def RX19 : String := "HamsterWeekends$Reader"
def TX19 : u_T := fun k => match k with
  | 0 => ("HamsterWeekends$Reader", "text", "LHamsterWeekends$Row;", true)
  | 1 => ("HamsterWeekends$Reader", "w", "LHamsterWeekends$Room;", true)
  | 2 => ("HamsterWeekends$Reader", "at", "I", false)
  | _ => ("HamsterWeekends$Reader", "place", "I", false)
def tyX19 : Nat → FieldType := fun k => match k with
  | 0 => .object "HamsterWeekends$Row"
  | 1 => .object "HamsterWeekends$Room"
  | 2 => .int
  | _ => .int
abbrev wsX190 : List Cond := u_ws RX19 TX19 4
theorem nmX19 : ∀ a, a < 4 → ∀ b, b < 4 → a ≠ b → (TX19 a).2.1 ≠ (TX19 b).2.1 := by decide +kernel
theorem tyX19_ok : ∀ k, k < 4 → parseFieldDescriptor (TX19 k).2.2.1 = some (tyX19 k) := by decide +kernel
abbrev cX19_init : ByteArray := prog_14_method_1_code
def yX19_init : MethodName := ⟨RX19, "<init>", "(LHamsterWeekends$Row;LHamsterWeekends$Room;)V"⟩
def dkwX19_init_0 : List UInt8 := [42, 183, 0, 3, 42, 43, 181, 0, 9, 42, 44, 181, 0, 15, 177]
abbrev dktX19_init_0 : List UInt8 := dkwX19_init_0 ++ []
theorem dksX19_init_0 : cX19_init.data.toList.drop 0 = dktX19_init_0 := by decide +kernel
theorem dX19_init_0 : decode cX19_init 0 = .ok (.aload_n 0, 1) := dk_42 (dk_at dksX19_init_0 0 rfl rfl)
theorem dX19_init_1 : decode cX19_init 1 = .ok (.invokespecial 3, 3) := dk_183 0 3 (dk_at dksX19_init_0 1 rfl rfl)
theorem dX19_init_4 : decode cX19_init 4 = .ok (.aload_n 0, 1) := dk_42 (dk_at dksX19_init_0 4 rfl rfl)
theorem dX19_init_5 : decode cX19_init 5 = .ok (.aload_n 1, 1) := dk_43 (dk_at dksX19_init_0 5 rfl rfl)
theorem dX19_init_6 : decode cX19_init 6 = .ok (.putfield 9, 3) := dk_181 0 9 (dk_at dksX19_init_0 6 rfl rfl)
theorem dX19_init_9 : decode cX19_init 9 = .ok (.aload_n 0, 1) := dk_42 (dk_at dksX19_init_0 9 rfl rfl)
theorem dX19_init_10 : decode cX19_init 10 = .ok (.aload_n 2, 1) := dk_44 (dk_at dksX19_init_0 10 rfl rfl)
theorem dX19_init_11 : decode cX19_init 11 = .ok (.putfield 15, 3) := dk_181 0 15 (dk_at dksX19_init_0 11 rfl rfl)
theorem dX19_init_14 : decode cX19_init 14 = .ok (.return_, 1) := dk_177 (dk_at dksX19_init_0 14 rfl rfl)
abbrev cX19_items : ByteArray := prog_14_method_9_code
def yX19_items : MethodName := ⟨RX19, "items", "()I"⟩
def dkwX19_items_1 : List UInt8 := [132, 1, 1, 167, 255, 236, 27, 172]
abbrev dktX19_items_1 : List UInt8 := dkwX19_items_1 ++ []
def dkwX19_items_0 : List UInt8 := [4, 60, 42, 182, 0, 70, 42, 182, 0, 29, 154, 0, 19, 42, 16, 59, 182, 0, 53, 42, 182, 0, 70]
abbrev dktX19_items_0 : List UInt8 := dkwX19_items_0 ++ dktX19_items_1
theorem dksX19_items_0 : cX19_items.data.toList.drop 0 = dktX19_items_0 := by decide +kernel
theorem dksX19_items_1 : cX19_items.data.toList.drop 23 = dktX19_items_1 := dk_seg dksX19_items_0 23 rfl rfl
theorem dX19_items_0 : decode cX19_items 0 = .ok (.iconst 1, 1) := dk_4 (dk_at dksX19_items_0 0 rfl rfl)
theorem dX19_items_1 : decode cX19_items 1 = .ok (.istore_n 1, 1) := dk_60 (dk_at dksX19_items_0 1 rfl rfl)
theorem dX19_items_2 : decode cX19_items 2 = .ok (.aload_n 0, 1) := dk_42 (dk_at dksX19_items_0 2 rfl rfl)
theorem dX19_items_3 : decode cX19_items 3 = .ok (.invokevirtual 70, 3) := dk_182 0 70 (dk_at dksX19_items_0 3 rfl rfl)
theorem dX19_items_6 : decode cX19_items 6 = .ok (.aload_n 0, 1) := dk_42 (dk_at dksX19_items_0 6 rfl rfl)
theorem dX19_items_7 : decode cX19_items 7 = .ok (.invokevirtual 29, 3) := dk_182 0 29 (dk_at dksX19_items_0 7 rfl rfl)
theorem dX19_items_10 : decode cX19_items 10 = .ok (.ifCond .ne 19, 3) := dk_154 0 19 (dk_at dksX19_items_0 10 rfl rfl)
theorem dX19_items_13 : decode cX19_items 13 = .ok (.aload_n 0, 1) := dk_42 (dk_at dksX19_items_0 13 rfl rfl)
theorem dX19_items_14 : decode cX19_items 14 = .ok (.bipush 59, 2) := dk_16 59 (dk_at dksX19_items_0 14 rfl rfl)
theorem dX19_items_16 : decode cX19_items 16 = .ok (.invokevirtual 53, 3) := dk_182 0 53 (dk_at dksX19_items_0 16 rfl rfl)
theorem dX19_items_19 : decode cX19_items 19 = .ok (.aload_n 0, 1) := dk_42 (dk_at dksX19_items_0 19 rfl rfl)
theorem dX19_items_20 : decode cX19_items 20 = .ok (.invokevirtual 70, 3) := dk_182 0 70 (dk_at dksX19_items_0 20 rfl rfl)
theorem dX19_items_23 : decode cX19_items 23 = .ok (.iinc 1 1, 3) := dk_132 1 1 (dk_at dksX19_items_1 0 rfl rfl)
theorem dX19_items_26 : decode cX19_items 26 = .ok (.goto (-20), 3) := dk_167 255 236 (dk_at dksX19_items_1 3 rfl rfl)
theorem dX19_items_29 : decode cX19_items 29 = .ok (.iload_n 1, 1) := dk_27 (dk_at dksX19_items_1 6 rfl rfl)
theorem dX19_items_30 : decode cX19_items 30 = .ok (.ireturn, 1) := dk_172 (dk_at dksX19_items_1 7 rfl rfl)
abbrev cX19_item : ByteArray := prog_14_method_16_code
def yX19_item : MethodName := ⟨RX19, "item", "()V"⟩
def dkwX19_item_4 : List UInt8 := [182, 0, 98, 61, 42, 180, 0, 15, 180, 0, 158, 28, 42, 3, 16, 9, 182, 0, 78, 79, 177]
abbrev dktX19_item_4 : List UInt8 := dkwX19_item_4 ++ []
def dkwX19_item_3 : List UInt8 := [16, 108, 182, 0, 37, 153, 0, 10, 42, 182, 0, 153, 167, 0, 30, 42, 18, 156, 182, 0, 84, 42]
abbrev dktX19_item_3 : List UInt8 := dkwX19_item_3 ++ dktX19_item_4
def dkwX19_item_2 : List UInt8 := [42, 182, 0, 147, 167, 0, 62, 42, 16, 102, 182, 0, 37, 153, 0, 10, 42, 182, 0, 150, 167, 0, 46, 42]
abbrev dktX19_item_2 : List UInt8 := dkwX19_item_2 ++ dktX19_item_3
def dkwX19_item_1 : List UInt8 := [16, 97, 182, 0, 37, 153, 0, 10, 42, 182, 0, 144, 167, 0, 78, 42, 16, 119, 182, 0, 37, 153, 0, 10]
abbrev dktX19_item_1 : List UInt8 := dkwX19_item_1 ++ dktX19_item_2
def dkwX19_item_0 : List UInt8 := [42, 180, 0, 19, 60, 42, 16, 104, 182, 0, 37, 153, 0, 11, 42, 27, 182, 0, 141, 167, 0, 94, 42]
abbrev dktX19_item_0 : List UInt8 := dkwX19_item_0 ++ dktX19_item_1
theorem dksX19_item_0 : cX19_item.data.toList.drop 0 = dktX19_item_0 := by decide +kernel
theorem dksX19_item_1 : cX19_item.data.toList.drop 23 = dktX19_item_1 := dk_seg dksX19_item_0 23 rfl rfl
theorem dksX19_item_2 : cX19_item.data.toList.drop 47 = dktX19_item_2 := dk_seg dksX19_item_1 24 rfl rfl
theorem dksX19_item_3 : cX19_item.data.toList.drop 71 = dktX19_item_3 := dk_seg dksX19_item_2 24 rfl rfl
theorem dksX19_item_4 : cX19_item.data.toList.drop 93 = dktX19_item_4 := dk_seg dksX19_item_3 22 rfl rfl
theorem dX19_item_0 : decode cX19_item 0 = .ok (.aload_n 0, 1) := dk_42 (dk_at dksX19_item_0 0 rfl rfl)
theorem dX19_item_1 : decode cX19_item 1 = .ok (.getfield 19, 3) := dk_180 0 19 (dk_at dksX19_item_0 1 rfl rfl)
theorem dX19_item_4 : decode cX19_item 4 = .ok (.istore_n 1, 1) := dk_60 (dk_at dksX19_item_0 4 rfl rfl)
theorem dX19_item_5 : decode cX19_item 5 = .ok (.aload_n 0, 1) := dk_42 (dk_at dksX19_item_0 5 rfl rfl)
theorem dX19_item_6 : decode cX19_item 6 = .ok (.bipush 104, 2) := dk_16 104 (dk_at dksX19_item_0 6 rfl rfl)
theorem dX19_item_8 : decode cX19_item 8 = .ok (.invokevirtual 37, 3) := dk_182 0 37 (dk_at dksX19_item_0 8 rfl rfl)
theorem dX19_item_11 : decode cX19_item 11 = .ok (.ifCond .eq 11, 3) := dk_153 0 11 (dk_at dksX19_item_0 11 rfl rfl)
theorem dX19_item_14 : decode cX19_item 14 = .ok (.aload_n 0, 1) := dk_42 (dk_at dksX19_item_0 14 rfl rfl)
theorem dX19_item_15 : decode cX19_item 15 = .ok (.iload_n 1, 1) := dk_27 (dk_at dksX19_item_0 15 rfl rfl)
theorem dX19_item_16 : decode cX19_item 16 = .ok (.invokevirtual 141, 3) := dk_182 0 141 (dk_at dksX19_item_0 16 rfl rfl)
theorem dX19_item_19 : decode cX19_item 19 = .ok (.goto 94, 3) := dk_167 0 94 (dk_at dksX19_item_0 19 rfl rfl)
theorem dX19_item_22 : decode cX19_item 22 = .ok (.aload_n 0, 1) := dk_42 (dk_at dksX19_item_0 22 rfl rfl)
theorem dX19_item_23 : decode cX19_item 23 = .ok (.bipush 97, 2) := dk_16 97 (dk_at dksX19_item_1 0 rfl rfl)
theorem dX19_item_25 : decode cX19_item 25 = .ok (.invokevirtual 37, 3) := dk_182 0 37 (dk_at dksX19_item_1 2 rfl rfl)
theorem dX19_item_28 : decode cX19_item 28 = .ok (.ifCond .eq 10, 3) := dk_153 0 10 (dk_at dksX19_item_1 5 rfl rfl)
theorem dX19_item_31 : decode cX19_item 31 = .ok (.aload_n 0, 1) := dk_42 (dk_at dksX19_item_1 8 rfl rfl)
theorem dX19_item_32 : decode cX19_item 32 = .ok (.invokevirtual 144, 3) := dk_182 0 144 (dk_at dksX19_item_1 9 rfl rfl)
theorem dX19_item_35 : decode cX19_item 35 = .ok (.goto 78, 3) := dk_167 0 78 (dk_at dksX19_item_1 12 rfl rfl)
theorem dX19_item_38 : decode cX19_item 38 = .ok (.aload_n 0, 1) := dk_42 (dk_at dksX19_item_1 15 rfl rfl)
theorem dX19_item_39 : decode cX19_item 39 = .ok (.bipush 119, 2) := dk_16 119 (dk_at dksX19_item_1 16 rfl rfl)
theorem dX19_item_41 : decode cX19_item 41 = .ok (.invokevirtual 37, 3) := dk_182 0 37 (dk_at dksX19_item_1 18 rfl rfl)
theorem dX19_item_44 : decode cX19_item 44 = .ok (.ifCond .eq 10, 3) := dk_153 0 10 (dk_at dksX19_item_1 21 rfl rfl)
theorem dX19_item_47 : decode cX19_item 47 = .ok (.aload_n 0, 1) := dk_42 (dk_at dksX19_item_2 0 rfl rfl)
theorem dX19_item_48 : decode cX19_item 48 = .ok (.invokevirtual 147, 3) := dk_182 0 147 (dk_at dksX19_item_2 1 rfl rfl)
theorem dX19_item_51 : decode cX19_item 51 = .ok (.goto 62, 3) := dk_167 0 62 (dk_at dksX19_item_2 4 rfl rfl)
theorem dX19_item_54 : decode cX19_item 54 = .ok (.aload_n 0, 1) := dk_42 (dk_at dksX19_item_2 7 rfl rfl)
theorem dX19_item_55 : decode cX19_item 55 = .ok (.bipush 102, 2) := dk_16 102 (dk_at dksX19_item_2 8 rfl rfl)
theorem dX19_item_57 : decode cX19_item 57 = .ok (.invokevirtual 37, 3) := dk_182 0 37 (dk_at dksX19_item_2 10 rfl rfl)
theorem dX19_item_60 : decode cX19_item 60 = .ok (.ifCond .eq 10, 3) := dk_153 0 10 (dk_at dksX19_item_2 13 rfl rfl)
theorem dX19_item_63 : decode cX19_item 63 = .ok (.aload_n 0, 1) := dk_42 (dk_at dksX19_item_2 16 rfl rfl)
theorem dX19_item_64 : decode cX19_item 64 = .ok (.invokevirtual 150, 3) := dk_182 0 150 (dk_at dksX19_item_2 17 rfl rfl)
theorem dX19_item_67 : decode cX19_item 67 = .ok (.goto 46, 3) := dk_167 0 46 (dk_at dksX19_item_2 20 rfl rfl)
theorem dX19_item_70 : decode cX19_item 70 = .ok (.aload_n 0, 1) := dk_42 (dk_at dksX19_item_2 23 rfl rfl)
theorem dX19_item_71 : decode cX19_item 71 = .ok (.bipush 108, 2) := dk_16 108 (dk_at dksX19_item_3 0 rfl rfl)
theorem dX19_item_73 : decode cX19_item 73 = .ok (.invokevirtual 37, 3) := dk_182 0 37 (dk_at dksX19_item_3 2 rfl rfl)
theorem dX19_item_76 : decode cX19_item 76 = .ok (.ifCond .eq 10, 3) := dk_153 0 10 (dk_at dksX19_item_3 5 rfl rfl)
theorem dX19_item_79 : decode cX19_item 79 = .ok (.aload_n 0, 1) := dk_42 (dk_at dksX19_item_3 8 rfl rfl)
theorem dX19_item_80 : decode cX19_item 80 = .ok (.invokevirtual 153, 3) := dk_182 0 153 (dk_at dksX19_item_3 9 rfl rfl)
theorem dX19_item_83 : decode cX19_item 83 = .ok (.goto 30, 3) := dk_167 0 30 (dk_at dksX19_item_3 12 rfl rfl)
theorem dX19_item_86 : decode cX19_item 86 = .ok (.aload_n 0, 1) := dk_42 (dk_at dksX19_item_3 15 rfl rfl)
theorem dX19_item_87 : decode cX19_item 87 = .ok (.ldc 156, 2) := dk_18 156 (dk_at dksX19_item_3 16 rfl rfl)
theorem dX19_item_89 : decode cX19_item 89 = .ok (.invokevirtual 84, 3) := dk_182 0 84 (dk_at dksX19_item_3 18 rfl rfl)
theorem dX19_item_92 : decode cX19_item 92 = .ok (.aload_n 0, 1) := dk_42 (dk_at dksX19_item_3 21 rfl rfl)
theorem dX19_item_93 : decode cX19_item 93 = .ok (.invokevirtual 98, 3) := dk_182 0 98 (dk_at dksX19_item_4 0 rfl rfl)
theorem dX19_item_96 : decode cX19_item 96 = .ok (.istore_n 2, 1) := dk_61 (dk_at dksX19_item_4 3 rfl rfl)
theorem dX19_item_97 : decode cX19_item 97 = .ok (.aload_n 0, 1) := dk_42 (dk_at dksX19_item_4 4 rfl rfl)
theorem dX19_item_98 : decode cX19_item 98 = .ok (.getfield 15, 3) := dk_180 0 15 (dk_at dksX19_item_4 5 rfl rfl)
theorem dX19_item_101 : decode cX19_item 101 = .ok (.getfield 158, 3) := dk_180 0 158 (dk_at dksX19_item_4 8 rfl rfl)
theorem dX19_item_104 : decode cX19_item 104 = .ok (.iload_n 2, 1) := dk_28 (dk_at dksX19_item_4 11 rfl rfl)
theorem dX19_item_105 : decode cX19_item 105 = .ok (.aload_n 0, 1) := dk_42 (dk_at dksX19_item_4 12 rfl rfl)
theorem dX19_item_106 : decode cX19_item 106 = .ok (.iconst 0, 1) := dk_3 (dk_at dksX19_item_4 13 rfl rfl)
theorem dX19_item_107 : decode cX19_item 107 = .ok (.bipush 9, 2) := dk_16 9 (dk_at dksX19_item_4 14 rfl rfl)
theorem dX19_item_109 : decode cX19_item 109 = .ok (.invokevirtual 78, 3) := dk_182 0 78 (dk_at dksX19_item_4 16 rfl rfl)
theorem dX19_item_112 : decode cX19_item 112 = .ok (.iastore, 1) := dk_79 (dk_at dksX19_item_4 19 rfl rfl)
theorem dX19_item_113 : decode cX19_item 113 = .ok (.return_, 1) := dk_177 (dk_at dksX19_item_4 20 rfl rfl)
abbrev cX19_sees : ByteArray := prog_14_method_3_code
def yX19_sees : MethodName := ⟨RX19, "sees", "(I)Z"⟩
def dkwX19_sees_1 : List UInt8 := [167, 0, 4, 3, 172]
abbrev dktX19_sees_1 : List UInt8 := dkwX19_sees_1 ++ []
def dkwX19_sees_0 : List UInt8 := [42, 182, 0, 29, 154, 0, 22, 42, 180, 0, 9, 42, 180, 0, 19, 182, 0, 33, 27, 160, 0, 7, 4]
abbrev dktX19_sees_0 : List UInt8 := dkwX19_sees_0 ++ dktX19_sees_1
theorem dksX19_sees_0 : cX19_sees.data.toList.drop 0 = dktX19_sees_0 := by decide +kernel
theorem dksX19_sees_1 : cX19_sees.data.toList.drop 23 = dktX19_sees_1 := dk_seg dksX19_sees_0 23 rfl rfl
theorem dX19_sees_0 : decode cX19_sees 0 = .ok (.aload_n 0, 1) := dk_42 (dk_at dksX19_sees_0 0 rfl rfl)
theorem dX19_sees_1 : decode cX19_sees 1 = .ok (.invokevirtual 29, 3) := dk_182 0 29 (dk_at dksX19_sees_0 1 rfl rfl)
theorem dX19_sees_4 : decode cX19_sees 4 = .ok (.ifCond .ne 22, 3) := dk_154 0 22 (dk_at dksX19_sees_0 4 rfl rfl)
theorem dX19_sees_7 : decode cX19_sees 7 = .ok (.aload_n 0, 1) := dk_42 (dk_at dksX19_sees_0 7 rfl rfl)
theorem dX19_sees_8 : decode cX19_sees 8 = .ok (.getfield 9, 3) := dk_180 0 9 (dk_at dksX19_sees_0 8 rfl rfl)
theorem dX19_sees_11 : decode cX19_sees 11 = .ok (.aload_n 0, 1) := dk_42 (dk_at dksX19_sees_0 11 rfl rfl)
theorem dX19_sees_12 : decode cX19_sees 12 = .ok (.getfield 19, 3) := dk_180 0 19 (dk_at dksX19_sees_0 12 rfl rfl)
theorem dX19_sees_15 : decode cX19_sees 15 = .ok (.invokevirtual 33, 3) := dk_182 0 33 (dk_at dksX19_sees_0 15 rfl rfl)
theorem dX19_sees_18 : decode cX19_sees 18 = .ok (.iload_n 1, 1) := dk_27 (dk_at dksX19_sees_0 18 rfl rfl)
theorem dX19_sees_19 : decode cX19_sees 19 = .ok (.if_icmp .ne 7, 3) := dk_160 0 7 (dk_at dksX19_sees_0 19 rfl rfl)
theorem dX19_sees_22 : decode cX19_sees 22 = .ok (.iconst 1, 1) := dk_4 (dk_at dksX19_sees_0 22 rfl rfl)
theorem dX19_sees_23 : decode cX19_sees 23 = .ok (.goto 4, 3) := dk_167 0 4 (dk_at dksX19_sees_1 0 rfl rfl)
theorem dX19_sees_26 : decode cX19_sees 26 = .ok (.iconst 0, 1) := dk_3 (dk_at dksX19_sees_1 3 rfl rfl)
theorem dX19_sees_27 : decode cX19_sees 27 = .ok (.ireturn, 1) := dk_172 (dk_at dksX19_sees_1 4 rfl rfl)
abbrev cX19_ends : ByteArray := prog_14_method_2_code
def yX19_ends : MethodName := ⟨RX19, "ends", "()Z"⟩
def dkwX19_ends_0 : List UInt8 := [42, 180, 0, 19, 42, 180, 0, 9, 182, 0, 23, 160, 0, 7, 4, 167, 0, 4, 3, 172]
abbrev dktX19_ends_0 : List UInt8 := dkwX19_ends_0 ++ []
theorem dksX19_ends_0 : cX19_ends.data.toList.drop 0 = dktX19_ends_0 := by decide +kernel
theorem dX19_ends_0 : decode cX19_ends 0 = .ok (.aload_n 0, 1) := dk_42 (dk_at dksX19_ends_0 0 rfl rfl)
theorem dX19_ends_1 : decode cX19_ends 1 = .ok (.getfield 19, 3) := dk_180 0 19 (dk_at dksX19_ends_0 1 rfl rfl)
theorem dX19_ends_4 : decode cX19_ends 4 = .ok (.aload_n 0, 1) := dk_42 (dk_at dksX19_ends_0 4 rfl rfl)
theorem dX19_ends_5 : decode cX19_ends 5 = .ok (.getfield 9, 3) := dk_180 0 9 (dk_at dksX19_ends_0 5 rfl rfl)
theorem dX19_ends_8 : decode cX19_ends 8 = .ok (.invokevirtual 23, 3) := dk_182 0 23 (dk_at dksX19_ends_0 8 rfl rfl)
theorem dX19_ends_11 : decode cX19_ends 11 = .ok (.if_icmp .ne 7, 3) := dk_160 0 7 (dk_at dksX19_ends_0 11 rfl rfl)
theorem dX19_ends_14 : decode cX19_ends 14 = .ok (.iconst 1, 1) := dk_4 (dk_at dksX19_ends_0 14 rfl rfl)
theorem dX19_ends_15 : decode cX19_ends 15 = .ok (.goto 4, 3) := dk_167 0 4 (dk_at dksX19_ends_0 15 rfl rfl)
theorem dX19_ends_18 : decode cX19_ends 18 = .ok (.iconst 0, 1) := dk_3 (dk_at dksX19_ends_0 18 rfl rfl)
theorem dX19_ends_19 : decode cX19_ends 19 = .ok (.ireturn, 1) := dk_172 (dk_at dksX19_ends_0 19 rfl rfl)
abbrev cX19_newHome : ByteArray := prog_14_method_11_code
def yX19_newHome : MethodName := ⟨RX19, "newHome", "(I)V"⟩
def dkwX19_newHome_2 : List UInt8 := [182, 0, 88, 177]
abbrev dktX19_newHome_2 : List UInt8 := dkwX19_newHome_2 ++ []
def dkwX19_newHome_1 : List UInt8 := [27, 182, 0, 66, 42, 3, 16, 6, 182, 0, 78, 61, 42, 180, 0, 15, 28, 42, 3, 16, 9, 182, 0, 78]
abbrev dktX19_newHome_1 : List UInt8 := dkwX19_newHome_1 ++ dktX19_newHome_2
def dkwX19_newHome_0 : List UInt8 := [42, 18, 82, 182, 0, 84, 42, 42, 180, 0, 15, 180, 0, 73, 16, 8, 162, 0, 7, 4, 167, 0, 4, 3]
abbrev dktX19_newHome_0 : List UInt8 := dkwX19_newHome_0 ++ dktX19_newHome_1
theorem dksX19_newHome_0 : cX19_newHome.data.toList.drop 0 = dktX19_newHome_0 := by decide +kernel
theorem dksX19_newHome_1 : cX19_newHome.data.toList.drop 24 = dktX19_newHome_1 := dk_seg dksX19_newHome_0 24 rfl rfl
theorem dksX19_newHome_2 : cX19_newHome.data.toList.drop 48 = dktX19_newHome_2 := dk_seg dksX19_newHome_1 24 rfl rfl
theorem dX19_newHome_0 : decode cX19_newHome 0 = .ok (.aload_n 0, 1) := dk_42 (dk_at dksX19_newHome_0 0 rfl rfl)
theorem dX19_newHome_1 : decode cX19_newHome 1 = .ok (.ldc 82, 2) := dk_18 82 (dk_at dksX19_newHome_0 1 rfl rfl)
theorem dX19_newHome_3 : decode cX19_newHome 3 = .ok (.invokevirtual 84, 3) := dk_182 0 84 (dk_at dksX19_newHome_0 3 rfl rfl)
theorem dX19_newHome_6 : decode cX19_newHome 6 = .ok (.aload_n 0, 1) := dk_42 (dk_at dksX19_newHome_0 6 rfl rfl)
theorem dX19_newHome_7 : decode cX19_newHome 7 = .ok (.aload_n 0, 1) := dk_42 (dk_at dksX19_newHome_0 7 rfl rfl)
theorem dX19_newHome_8 : decode cX19_newHome 8 = .ok (.getfield 15, 3) := dk_180 0 15 (dk_at dksX19_newHome_0 8 rfl rfl)
theorem dX19_newHome_11 : decode cX19_newHome 11 = .ok (.getfield 73, 3) := dk_180 0 73 (dk_at dksX19_newHome_0 11 rfl rfl)
theorem dX19_newHome_14 : decode cX19_newHome 14 = .ok (.bipush 8, 2) := dk_16 8 (dk_at dksX19_newHome_0 14 rfl rfl)
theorem dX19_newHome_16 : decode cX19_newHome 16 = .ok (.if_icmp .ge 7, 3) := dk_162 0 7 (dk_at dksX19_newHome_0 16 rfl rfl)
theorem dX19_newHome_19 : decode cX19_newHome 19 = .ok (.iconst 1, 1) := dk_4 (dk_at dksX19_newHome_0 19 rfl rfl)
theorem dX19_newHome_20 : decode cX19_newHome 20 = .ok (.goto 4, 3) := dk_167 0 4 (dk_at dksX19_newHome_0 20 rfl rfl)
theorem dX19_newHome_23 : decode cX19_newHome 23 = .ok (.iconst 0, 1) := dk_3 (dk_at dksX19_newHome_0 23 rfl rfl)
theorem dX19_newHome_24 : decode cX19_newHome 24 = .ok (.iload_n 1, 1) := dk_27 (dk_at dksX19_newHome_1 0 rfl rfl)
theorem dX19_newHome_25 : decode cX19_newHome 25 = .ok (.invokevirtual 66, 3) := dk_182 0 66 (dk_at dksX19_newHome_1 1 rfl rfl)
theorem dX19_newHome_28 : decode cX19_newHome 28 = .ok (.aload_n 0, 1) := dk_42 (dk_at dksX19_newHome_1 4 rfl rfl)
theorem dX19_newHome_29 : decode cX19_newHome 29 = .ok (.iconst 0, 1) := dk_3 (dk_at dksX19_newHome_1 5 rfl rfl)
theorem dX19_newHome_30 : decode cX19_newHome 30 = .ok (.bipush 6, 2) := dk_16 6 (dk_at dksX19_newHome_1 6 rfl rfl)
theorem dX19_newHome_32 : decode cX19_newHome 32 = .ok (.invokevirtual 78, 3) := dk_182 0 78 (dk_at dksX19_newHome_1 8 rfl rfl)
theorem dX19_newHome_35 : decode cX19_newHome 35 = .ok (.istore_n 2, 1) := dk_61 (dk_at dksX19_newHome_1 11 rfl rfl)
theorem dX19_newHome_36 : decode cX19_newHome 36 = .ok (.aload_n 0, 1) := dk_42 (dk_at dksX19_newHome_1 12 rfl rfl)
theorem dX19_newHome_37 : decode cX19_newHome 37 = .ok (.getfield 15, 3) := dk_180 0 15 (dk_at dksX19_newHome_1 13 rfl rfl)
theorem dX19_newHome_40 : decode cX19_newHome 40 = .ok (.iload_n 2, 1) := dk_28 (dk_at dksX19_newHome_1 16 rfl rfl)
theorem dX19_newHome_41 : decode cX19_newHome 41 = .ok (.aload_n 0, 1) := dk_42 (dk_at dksX19_newHome_1 17 rfl rfl)
theorem dX19_newHome_42 : decode cX19_newHome 42 = .ok (.iconst 0, 1) := dk_3 (dk_at dksX19_newHome_1 18 rfl rfl)
theorem dX19_newHome_43 : decode cX19_newHome 43 = .ok (.bipush 9, 2) := dk_16 9 (dk_at dksX19_newHome_1 19 rfl rfl)
theorem dX19_newHome_45 : decode cX19_newHome 45 = .ok (.invokevirtual 78, 3) := dk_182 0 78 (dk_at dksX19_newHome_1 21 rfl rfl)
theorem dX19_newHome_48 : decode cX19_newHome 48 = .ok (.invokevirtual 88, 3) := dk_182 0 88 (dk_at dksX19_newHome_2 0 rfl rfl)
theorem dX19_newHome_51 : decode cX19_newHome 51 = .ok (.return_, 1) := dk_177 (dk_at dksX19_newHome_2 3 rfl rfl)
abbrev cX19_word : ByteArray := prog_14_method_5_code
def yX19_word : MethodName := ⟨RX19, "word", "(Ljava/lang/String;)V"⟩
def dkwX19_word_1 : List UInt8 := [167, 255, 236, 177]
abbrev dktX19_word_1 : List UInt8 := dkwX19_word_1 ++ []
def dkwX19_word_0 : List UInt8 := [3, 61, 28, 43, 182, 0, 46, 162, 0, 18, 42, 43, 28, 182, 0, 49, 182, 0, 53, 132, 2, 1]
abbrev dktX19_word_0 : List UInt8 := dkwX19_word_0 ++ dktX19_word_1
theorem dksX19_word_0 : cX19_word.data.toList.drop 0 = dktX19_word_0 := by decide +kernel
theorem dksX19_word_1 : cX19_word.data.toList.drop 22 = dktX19_word_1 := dk_seg dksX19_word_0 22 rfl rfl
theorem dX19_word_0 : decode cX19_word 0 = .ok (.iconst 0, 1) := dk_3 (dk_at dksX19_word_0 0 rfl rfl)
theorem dX19_word_1 : decode cX19_word 1 = .ok (.istore_n 2, 1) := dk_61 (dk_at dksX19_word_0 1 rfl rfl)
theorem dX19_word_2 : decode cX19_word 2 = .ok (.iload_n 2, 1) := dk_28 (dk_at dksX19_word_0 2 rfl rfl)
theorem dX19_word_3 : decode cX19_word 3 = .ok (.aload_n 1, 1) := dk_43 (dk_at dksX19_word_0 3 rfl rfl)
theorem dX19_word_4 : decode cX19_word 4 = .ok (.invokevirtual 46, 3) := dk_182 0 46 (dk_at dksX19_word_0 4 rfl rfl)
theorem dX19_word_7 : decode cX19_word 7 = .ok (.if_icmp .ge 18, 3) := dk_162 0 18 (dk_at dksX19_word_0 7 rfl rfl)
theorem dX19_word_10 : decode cX19_word 10 = .ok (.aload_n 0, 1) := dk_42 (dk_at dksX19_word_0 10 rfl rfl)
theorem dX19_word_11 : decode cX19_word 11 = .ok (.aload_n 1, 1) := dk_43 (dk_at dksX19_word_0 11 rfl rfl)
theorem dX19_word_12 : decode cX19_word 12 = .ok (.iload_n 2, 1) := dk_28 (dk_at dksX19_word_0 12 rfl rfl)
theorem dX19_word_13 : decode cX19_word 13 = .ok (.invokevirtual 49, 3) := dk_182 0 49 (dk_at dksX19_word_0 13 rfl rfl)
theorem dX19_word_16 : decode cX19_word 16 = .ok (.invokevirtual 53, 3) := dk_182 0 53 (dk_at dksX19_word_0 16 rfl rfl)
theorem dX19_word_19 : decode cX19_word 19 = .ok (.iinc 2 1, 3) := dk_132 2 1 (dk_at dksX19_word_0 19 rfl rfl)
theorem dX19_word_22 : decode cX19_word 22 = .ok (.goto (-20), 3) := dk_167 255 236 (dk_at dksX19_word_1 0 rfl rfl)
theorem dX19_word_25 : decode cX19_word 25 = .ok (.return_, 1) := dk_177 (dk_at dksX19_word_1 3 rfl rfl)
abbrev cX19_must : ByteArray := prog_14_method_4_code
def yX19_must : MethodName := ⟨RX19, "must", "(I)V"⟩
def dkwX19_must_1 : List UInt8 := [180, 0, 19, 4, 96, 181, 0, 19, 177]
abbrev dktX19_must_1 : List UInt8 := dkwX19_must_1 ++ []
def dkwX19_must_0 : List UInt8 := [42, 27, 182, 0, 37, 154, 0, 15, 187, 0, 41, 89, 42, 180, 0, 19, 183, 0, 43, 191, 42, 89]
abbrev dktX19_must_0 : List UInt8 := dkwX19_must_0 ++ dktX19_must_1
theorem dksX19_must_0 : cX19_must.data.toList.drop 0 = dktX19_must_0 := by decide +kernel
theorem dksX19_must_1 : cX19_must.data.toList.drop 22 = dktX19_must_1 := dk_seg dksX19_must_0 22 rfl rfl
theorem dX19_must_0 : decode cX19_must 0 = .ok (.aload_n 0, 1) := dk_42 (dk_at dksX19_must_0 0 rfl rfl)
theorem dX19_must_1 : decode cX19_must 1 = .ok (.iload_n 1, 1) := dk_27 (dk_at dksX19_must_0 1 rfl rfl)
theorem dX19_must_2 : decode cX19_must 2 = .ok (.invokevirtual 37, 3) := dk_182 0 37 (dk_at dksX19_must_0 2 rfl rfl)
theorem dX19_must_5 : decode cX19_must 5 = .ok (.ifCond .ne 15, 3) := dk_154 0 15 (dk_at dksX19_must_0 5 rfl rfl)
theorem dX19_must_8 : decode cX19_must 8 = .ok (.new 41, 3) := dk_187 0 41 (dk_at dksX19_must_0 8 rfl rfl)
theorem dX19_must_11 : decode cX19_must 11 = .ok (.dup, 1) := dk_89 (dk_at dksX19_must_0 11 rfl rfl)
theorem dX19_must_12 : decode cX19_must 12 = .ok (.aload_n 0, 1) := dk_42 (dk_at dksX19_must_0 12 rfl rfl)
theorem dX19_must_13 : decode cX19_must 13 = .ok (.getfield 19, 3) := dk_180 0 19 (dk_at dksX19_must_0 13 rfl rfl)
theorem dX19_must_16 : decode cX19_must 16 = .ok (.invokespecial 43, 3) := dk_183 0 43 (dk_at dksX19_must_0 16 rfl rfl)
theorem dX19_must_19 : decode cX19_must 19 = .ok (.athrow, 1) := dk_191 (dk_at dksX19_must_0 19 rfl rfl)
theorem dX19_must_20 : decode cX19_must 20 = .ok (.aload_n 0, 1) := dk_42 (dk_at dksX19_must_0 20 rfl rfl)
theorem dX19_must_21 : decode cX19_must 21 = .ok (.dup, 1) := dk_89 (dk_at dksX19_must_0 21 rfl rfl)
theorem dX19_must_22 : decode cX19_must 22 = .ok (.getfield 19, 3) := dk_180 0 19 (dk_at dksX19_must_1 0 rfl rfl)
theorem dX19_must_25 : decode cX19_must 25 = .ok (.iconst 1, 1) := dk_4 (dk_at dksX19_must_1 3 rfl rfl)
theorem dX19_must_26 : decode cX19_must 26 = .ok (.iadd, 1) := dk_96 (dk_at dksX19_must_1 4 rfl rfl)
theorem dX19_must_27 : decode cX19_must 27 = .ok (.putfield 19, 3) := dk_181 0 19 (dk_at dksX19_must_1 5 rfl rfl)
theorem dX19_must_30 : decode cX19_must 30 = .ok (.return_, 1) := dk_177 (dk_at dksX19_must_1 8 rfl rfl)
abbrev cX19_hasRoom : ByteArray := prog_14_method_8_code
def yX19_hasRoom : MethodName := ⟨RX19, "hasRoom", "(ZI)V"⟩
def dkwX19_hasRoom_0 : List UInt8 := [27, 154, 0, 12, 187, 0, 41, 89, 28, 183, 0, 43, 191, 177]
abbrev dktX19_hasRoom_0 : List UInt8 := dkwX19_hasRoom_0 ++ []
theorem dksX19_hasRoom_0 : cX19_hasRoom.data.toList.drop 0 = dktX19_hasRoom_0 := by decide +kernel
theorem dX19_hasRoom_0 : decode cX19_hasRoom 0 = .ok (.iload_n 1, 1) := dk_27 (dk_at dksX19_hasRoom_0 0 rfl rfl)
theorem dX19_hasRoom_1 : decode cX19_hasRoom 1 = .ok (.ifCond .ne 12, 3) := dk_154 0 12 (dk_at dksX19_hasRoom_0 1 rfl rfl)
theorem dX19_hasRoom_4 : decode cX19_hasRoom 4 = .ok (.new 41, 3) := dk_187 0 41 (dk_at dksX19_hasRoom_0 4 rfl rfl)
theorem dX19_hasRoom_7 : decode cX19_hasRoom 7 = .ok (.dup, 1) := dk_89 (dk_at dksX19_hasRoom_0 7 rfl rfl)
theorem dX19_hasRoom_8 : decode cX19_hasRoom 8 = .ok (.iload_n 2, 1) := dk_28 (dk_at dksX19_hasRoom_0 8 rfl rfl)
theorem dX19_hasRoom_9 : decode cX19_hasRoom 9 = .ok (.invokespecial 43, 3) := dk_183 0 43 (dk_at dksX19_hasRoom_0 9 rfl rfl)
theorem dX19_hasRoom_12 : decode cX19_hasRoom 12 = .ok (.athrow, 1) := dk_191 (dk_at dksX19_hasRoom_0 12 rfl rfl)
theorem dX19_hasRoom_13 : decode cX19_hasRoom 13 = .ok (.return_, 1) := dk_177 (dk_at dksX19_hasRoom_0 13 rfl rfl)
abbrev cX19_number : ByteArray := prog_14_method_7_code
def yX19_number : MethodName := ⟨RX19, "number", "(II)I"⟩
def dkwX19_number_4 : List UInt8 := [42, 180, 0, 56, 182, 0, 66, 29, 172]
abbrev dktX19_number_4 : List UInt8 := dkwX19_number_4 ++ []
def dkwX19_number_3 : List UInt8 := [182, 0, 33, 96, 16, 48, 100, 62, 132, 4, 1, 167, 255, 213, 42, 29, 133, 27, 133, 28, 133, 184, 0, 62]
abbrev dktX19_number_3 : List UInt8 := dkwX19_number_3 ++ dktX19_number_4
def dkwX19_number_2 : List UInt8 := [153, 0, 36, 16, 10, 29, 104, 42, 180, 0, 9, 42, 89, 180, 0, 19, 90, 4, 96, 181, 0, 19]
abbrev dktX19_number_2 : List UInt8 := dkwX19_number_2 ++ dktX19_number_3
def dkwX19_number_1 : List UInt8 := [89, 42, 180, 0, 19, 183, 0, 43, 191, 3, 62, 3, 54, 4, 21, 4, 6, 162, 0, 43, 42, 182, 0, 59]
abbrev dktX19_number_1 : List UInt8 := dkwX19_number_1 ++ dktX19_number_2
def dkwX19_number_0 : List UInt8 := [42, 16, 32, 182, 0, 53, 42, 42, 180, 0, 19, 181, 0, 56, 42, 182, 0, 59, 154, 0, 15, 187, 0, 41]
abbrev dktX19_number_0 : List UInt8 := dkwX19_number_0 ++ dktX19_number_1
theorem dksX19_number_0 : cX19_number.data.toList.drop 0 = dktX19_number_0 := by decide +kernel
theorem dksX19_number_1 : cX19_number.data.toList.drop 24 = dktX19_number_1 := dk_seg dksX19_number_0 24 rfl rfl
theorem dksX19_number_2 : cX19_number.data.toList.drop 48 = dktX19_number_2 := dk_seg dksX19_number_1 24 rfl rfl
theorem dksX19_number_3 : cX19_number.data.toList.drop 70 = dktX19_number_3 := dk_seg dksX19_number_2 22 rfl rfl
theorem dksX19_number_4 : cX19_number.data.toList.drop 94 = dktX19_number_4 := dk_seg dksX19_number_3 24 rfl rfl
theorem dX19_number_0 : decode cX19_number 0 = .ok (.aload_n 0, 1) := dk_42 (dk_at dksX19_number_0 0 rfl rfl)
theorem dX19_number_1 : decode cX19_number 1 = .ok (.bipush 32, 2) := dk_16 32 (dk_at dksX19_number_0 1 rfl rfl)
theorem dX19_number_3 : decode cX19_number 3 = .ok (.invokevirtual 53, 3) := dk_182 0 53 (dk_at dksX19_number_0 3 rfl rfl)
theorem dX19_number_6 : decode cX19_number 6 = .ok (.aload_n 0, 1) := dk_42 (dk_at dksX19_number_0 6 rfl rfl)
theorem dX19_number_7 : decode cX19_number 7 = .ok (.aload_n 0, 1) := dk_42 (dk_at dksX19_number_0 7 rfl rfl)
theorem dX19_number_8 : decode cX19_number 8 = .ok (.getfield 19, 3) := dk_180 0 19 (dk_at dksX19_number_0 8 rfl rfl)
theorem dX19_number_11 : decode cX19_number 11 = .ok (.putfield 56, 3) := dk_181 0 56 (dk_at dksX19_number_0 11 rfl rfl)
theorem dX19_number_14 : decode cX19_number 14 = .ok (.aload_n 0, 1) := dk_42 (dk_at dksX19_number_0 14 rfl rfl)
theorem dX19_number_15 : decode cX19_number 15 = .ok (.invokevirtual 59, 3) := dk_182 0 59 (dk_at dksX19_number_0 15 rfl rfl)
theorem dX19_number_18 : decode cX19_number 18 = .ok (.ifCond .ne 15, 3) := dk_154 0 15 (dk_at dksX19_number_0 18 rfl rfl)
theorem dX19_number_21 : decode cX19_number 21 = .ok (.new 41, 3) := dk_187 0 41 (dk_at dksX19_number_0 21 rfl rfl)
theorem dX19_number_24 : decode cX19_number 24 = .ok (.dup, 1) := dk_89 (dk_at dksX19_number_1 0 rfl rfl)
theorem dX19_number_25 : decode cX19_number 25 = .ok (.aload_n 0, 1) := dk_42 (dk_at dksX19_number_1 1 rfl rfl)
theorem dX19_number_26 : decode cX19_number 26 = .ok (.getfield 19, 3) := dk_180 0 19 (dk_at dksX19_number_1 2 rfl rfl)
theorem dX19_number_29 : decode cX19_number 29 = .ok (.invokespecial 43, 3) := dk_183 0 43 (dk_at dksX19_number_1 5 rfl rfl)
theorem dX19_number_32 : decode cX19_number 32 = .ok (.athrow, 1) := dk_191 (dk_at dksX19_number_1 8 rfl rfl)
theorem dX19_number_33 : decode cX19_number 33 = .ok (.iconst 0, 1) := dk_3 (dk_at dksX19_number_1 9 rfl rfl)
theorem dX19_number_34 : decode cX19_number 34 = .ok (.istore_n 3, 1) := dk_62 (dk_at dksX19_number_1 10 rfl rfl)
theorem dX19_number_35 : decode cX19_number 35 = .ok (.iconst 0, 1) := dk_3 (dk_at dksX19_number_1 11 rfl rfl)
theorem dX19_number_36 : decode cX19_number 36 = .ok (.istore 4, 2) := dk_54 4 (dk_at dksX19_number_1 12 rfl rfl)
theorem dX19_number_38 : decode cX19_number 38 = .ok (.iload 4, 2) := dk_21 4 (dk_at dksX19_number_1 14 rfl rfl)
theorem dX19_number_40 : decode cX19_number 40 = .ok (.iconst 3, 1) := dk_6 (dk_at dksX19_number_1 16 rfl rfl)
theorem dX19_number_41 : decode cX19_number 41 = .ok (.if_icmp .ge 43, 3) := dk_162 0 43 (dk_at dksX19_number_1 17 rfl rfl)
theorem dX19_number_44 : decode cX19_number 44 = .ok (.aload_n 0, 1) := dk_42 (dk_at dksX19_number_1 20 rfl rfl)
theorem dX19_number_45 : decode cX19_number 45 = .ok (.invokevirtual 59, 3) := dk_182 0 59 (dk_at dksX19_number_1 21 rfl rfl)
theorem dX19_number_48 : decode cX19_number 48 = .ok (.ifCond .eq 36, 3) := dk_153 0 36 (dk_at dksX19_number_2 0 rfl rfl)
theorem dX19_number_51 : decode cX19_number 51 = .ok (.bipush 10, 2) := dk_16 10 (dk_at dksX19_number_2 3 rfl rfl)
theorem dX19_number_53 : decode cX19_number 53 = .ok (.iload_n 3, 1) := dk_29 (dk_at dksX19_number_2 5 rfl rfl)
theorem dX19_number_54 : decode cX19_number 54 = .ok (.imul, 1) := dk_104 (dk_at dksX19_number_2 6 rfl rfl)
theorem dX19_number_55 : decode cX19_number 55 = .ok (.aload_n 0, 1) := dk_42 (dk_at dksX19_number_2 7 rfl rfl)
theorem dX19_number_56 : decode cX19_number 56 = .ok (.getfield 9, 3) := dk_180 0 9 (dk_at dksX19_number_2 8 rfl rfl)
theorem dX19_number_59 : decode cX19_number 59 = .ok (.aload_n 0, 1) := dk_42 (dk_at dksX19_number_2 11 rfl rfl)
theorem dX19_number_60 : decode cX19_number 60 = .ok (.dup, 1) := dk_89 (dk_at dksX19_number_2 12 rfl rfl)
theorem dX19_number_61 : decode cX19_number 61 = .ok (.getfield 19, 3) := dk_180 0 19 (dk_at dksX19_number_2 13 rfl rfl)
theorem dX19_number_64 : decode cX19_number 64 = .ok (.dup_x1, 1) := dk_90 (dk_at dksX19_number_2 16 rfl rfl)
theorem dX19_number_65 : decode cX19_number 65 = .ok (.iconst 1, 1) := dk_4 (dk_at dksX19_number_2 17 rfl rfl)
theorem dX19_number_66 : decode cX19_number 66 = .ok (.iadd, 1) := dk_96 (dk_at dksX19_number_2 18 rfl rfl)
theorem dX19_number_67 : decode cX19_number 67 = .ok (.putfield 19, 3) := dk_181 0 19 (dk_at dksX19_number_2 19 rfl rfl)
theorem dX19_number_70 : decode cX19_number 70 = .ok (.invokevirtual 33, 3) := dk_182 0 33 (dk_at dksX19_number_3 0 rfl rfl)
theorem dX19_number_73 : decode cX19_number 73 = .ok (.iadd, 1) := dk_96 (dk_at dksX19_number_3 3 rfl rfl)
theorem dX19_number_74 : decode cX19_number 74 = .ok (.bipush 48, 2) := dk_16 48 (dk_at dksX19_number_3 4 rfl rfl)
theorem dX19_number_76 : decode cX19_number 76 = .ok (.isub, 1) := dk_100 (dk_at dksX19_number_3 6 rfl rfl)
theorem dX19_number_77 : decode cX19_number 77 = .ok (.istore_n 3, 1) := dk_62 (dk_at dksX19_number_3 7 rfl rfl)
theorem dX19_number_78 : decode cX19_number 78 = .ok (.iinc 4 1, 3) := dk_132 4 1 (dk_at dksX19_number_3 8 rfl rfl)
theorem dX19_number_81 : decode cX19_number 81 = .ok (.goto (-43), 3) := dk_167 255 213 (dk_at dksX19_number_3 11 rfl rfl)
theorem dX19_number_84 : decode cX19_number 84 = .ok (.aload_n 0, 1) := dk_42 (dk_at dksX19_number_3 14 rfl rfl)
theorem dX19_number_85 : decode cX19_number 85 = .ok (.iload_n 3, 1) := dk_29 (dk_at dksX19_number_3 15 rfl rfl)
theorem dX19_number_86 : decode cX19_number 86 = .ok (.i2l, 1) := dk_133 (dk_at dksX19_number_3 16 rfl rfl)
theorem dX19_number_87 : decode cX19_number 87 = .ok (.iload_n 1, 1) := dk_27 (dk_at dksX19_number_3 17 rfl rfl)
theorem dX19_number_88 : decode cX19_number 88 = .ok (.i2l, 1) := dk_133 (dk_at dksX19_number_3 18 rfl rfl)
theorem dX19_number_89 : decode cX19_number 89 = .ok (.iload_n 2, 1) := dk_28 (dk_at dksX19_number_3 19 rfl rfl)
theorem dX19_number_90 : decode cX19_number 90 = .ok (.i2l, 1) := dk_133 (dk_at dksX19_number_3 20 rfl rfl)
theorem dX19_number_91 : decode cX19_number 91 = .ok (.invokestatic 62, 3) := dk_184 0 62 (dk_at dksX19_number_3 21 rfl rfl)
theorem dX19_number_94 : decode cX19_number 94 = .ok (.aload_n 0, 1) := dk_42 (dk_at dksX19_number_4 0 rfl rfl)
theorem dX19_number_95 : decode cX19_number 95 = .ok (.getfield 56, 3) := dk_180 0 56 (dk_at dksX19_number_4 1 rfl rfl)
theorem dX19_number_98 : decode cX19_number 98 = .ok (.invokevirtual 66, 3) := dk_182 0 66 (dk_at dksX19_number_4 4 rfl rfl)
theorem dX19_number_101 : decode cX19_number 101 = .ok (.iload_n 3, 1) := dk_29 (dk_at dksX19_number_4 7 rfl rfl)
theorem dX19_number_102 : decode cX19_number 102 = .ok (.ireturn, 1) := dk_172 (dk_at dksX19_number_4 8 rfl rfl)
abbrev cX19_digit : ByteArray := prog_14_method_6_code
def yX19_digit : MethodName := ⟨RX19, "digit", "()Z"⟩
def dkwX19_digit_1 : List UInt8 := [180, 0, 9, 42, 180, 0, 19, 182, 0, 33, 16, 57, 163, 0, 7, 4, 167, 0, 4, 3, 172]
abbrev dktX19_digit_1 : List UInt8 := dkwX19_digit_1 ++ []
def dkwX19_digit_0 : List UInt8 := [42, 182, 0, 29, 154, 0, 39, 42, 180, 0, 9, 42, 180, 0, 19, 182, 0, 33, 16, 48, 161, 0, 23, 42]
abbrev dktX19_digit_0 : List UInt8 := dkwX19_digit_0 ++ dktX19_digit_1
theorem dksX19_digit_0 : cX19_digit.data.toList.drop 0 = dktX19_digit_0 := by decide +kernel
theorem dksX19_digit_1 : cX19_digit.data.toList.drop 24 = dktX19_digit_1 := dk_seg dksX19_digit_0 24 rfl rfl
theorem dX19_digit_0 : decode cX19_digit 0 = .ok (.aload_n 0, 1) := dk_42 (dk_at dksX19_digit_0 0 rfl rfl)
theorem dX19_digit_1 : decode cX19_digit 1 = .ok (.invokevirtual 29, 3) := dk_182 0 29 (dk_at dksX19_digit_0 1 rfl rfl)
theorem dX19_digit_4 : decode cX19_digit 4 = .ok (.ifCond .ne 39, 3) := dk_154 0 39 (dk_at dksX19_digit_0 4 rfl rfl)
theorem dX19_digit_7 : decode cX19_digit 7 = .ok (.aload_n 0, 1) := dk_42 (dk_at dksX19_digit_0 7 rfl rfl)
theorem dX19_digit_8 : decode cX19_digit 8 = .ok (.getfield 9, 3) := dk_180 0 9 (dk_at dksX19_digit_0 8 rfl rfl)
theorem dX19_digit_11 : decode cX19_digit 11 = .ok (.aload_n 0, 1) := dk_42 (dk_at dksX19_digit_0 11 rfl rfl)
theorem dX19_digit_12 : decode cX19_digit 12 = .ok (.getfield 19, 3) := dk_180 0 19 (dk_at dksX19_digit_0 12 rfl rfl)
theorem dX19_digit_15 : decode cX19_digit 15 = .ok (.invokevirtual 33, 3) := dk_182 0 33 (dk_at dksX19_digit_0 15 rfl rfl)
theorem dX19_digit_18 : decode cX19_digit 18 = .ok (.bipush 48, 2) := dk_16 48 (dk_at dksX19_digit_0 18 rfl rfl)
theorem dX19_digit_20 : decode cX19_digit 20 = .ok (.if_icmp .lt 23, 3) := dk_161 0 23 (dk_at dksX19_digit_0 20 rfl rfl)
theorem dX19_digit_23 : decode cX19_digit 23 = .ok (.aload_n 0, 1) := dk_42 (dk_at dksX19_digit_0 23 rfl rfl)
theorem dX19_digit_24 : decode cX19_digit 24 = .ok (.getfield 9, 3) := dk_180 0 9 (dk_at dksX19_digit_1 0 rfl rfl)
theorem dX19_digit_27 : decode cX19_digit 27 = .ok (.aload_n 0, 1) := dk_42 (dk_at dksX19_digit_1 3 rfl rfl)
theorem dX19_digit_28 : decode cX19_digit 28 = .ok (.getfield 19, 3) := dk_180 0 19 (dk_at dksX19_digit_1 4 rfl rfl)
theorem dX19_digit_31 : decode cX19_digit 31 = .ok (.invokevirtual 33, 3) := dk_182 0 33 (dk_at dksX19_digit_1 7 rfl rfl)
theorem dX19_digit_34 : decode cX19_digit 34 = .ok (.bipush 57, 2) := dk_16 57 (dk_at dksX19_digit_1 10 rfl rfl)
theorem dX19_digit_36 : decode cX19_digit 36 = .ok (.if_icmp .gt 7, 3) := dk_163 0 7 (dk_at dksX19_digit_1 12 rfl rfl)
theorem dX19_digit_39 : decode cX19_digit 39 = .ok (.iconst 1, 1) := dk_4 (dk_at dksX19_digit_1 15 rfl rfl)
theorem dX19_digit_40 : decode cX19_digit 40 = .ok (.goto 4, 3) := dk_167 0 4 (dk_at dksX19_digit_1 16 rfl rfl)
theorem dX19_digit_43 : decode cX19_digit 43 = .ok (.iconst 0, 1) := dk_3 (dk_at dksX19_digit_1 19 rfl rfl)
theorem dX19_digit_44 : decode cX19_digit 44 = .ok (.ireturn, 1) := dk_172 (dk_at dksX19_digit_1 20 rfl rfl)
abbrev cX19_allergicOrAge : ByteArray := prog_14_method_12_code
def yX19_allergicOrAge : MethodName := ⟨RX19, "allergicOrAge", "()V"⟩
def dkwX19_allergicOrAge_2 : List UInt8 := [180, 0, 102, 42, 3, 17, 3, 231, 182, 0, 78, 181, 0, 106, 177]
abbrev dktX19_allergicOrAge_2 : List UInt8 := dkwX19_allergicOrAge_2 ++ []
def dkwX19_allergicOrAge_1 : List UInt8 := [180, 0, 15, 180, 0, 94, 42, 182, 0, 98, 4, 84, 177, 42, 18, 100, 182, 0, 84, 42, 180, 0, 15]
abbrev dktX19_allergicOrAge_1 : List UInt8 := dkwX19_allergicOrAge_1 ++ dktX19_allergicOrAge_2
def dkwX19_allergicOrAge_0 : List UInt8 := [42, 16, 97, 182, 0, 53, 42, 16, 108, 182, 0, 37, 153, 0, 23, 42, 18, 92, 182, 0, 84, 42]
abbrev dktX19_allergicOrAge_0 : List UInt8 := dkwX19_allergicOrAge_0 ++ dktX19_allergicOrAge_1
theorem dksX19_allergicOrAge_0 : cX19_allergicOrAge.data.toList.drop 0 = dktX19_allergicOrAge_0 := by decide +kernel
theorem dksX19_allergicOrAge_1 : cX19_allergicOrAge.data.toList.drop 22 = dktX19_allergicOrAge_1 := dk_seg dksX19_allergicOrAge_0 22 rfl rfl
theorem dksX19_allergicOrAge_2 : cX19_allergicOrAge.data.toList.drop 45 = dktX19_allergicOrAge_2 := dk_seg dksX19_allergicOrAge_1 23 rfl rfl
theorem dX19_allergicOrAge_0 : decode cX19_allergicOrAge 0 = .ok (.aload_n 0, 1) := dk_42 (dk_at dksX19_allergicOrAge_0 0 rfl rfl)
theorem dX19_allergicOrAge_1 : decode cX19_allergicOrAge 1 = .ok (.bipush 97, 2) := dk_16 97 (dk_at dksX19_allergicOrAge_0 1 rfl rfl)
theorem dX19_allergicOrAge_3 : decode cX19_allergicOrAge 3 = .ok (.invokevirtual 53, 3) := dk_182 0 53 (dk_at dksX19_allergicOrAge_0 3 rfl rfl)
theorem dX19_allergicOrAge_6 : decode cX19_allergicOrAge 6 = .ok (.aload_n 0, 1) := dk_42 (dk_at dksX19_allergicOrAge_0 6 rfl rfl)
theorem dX19_allergicOrAge_7 : decode cX19_allergicOrAge 7 = .ok (.bipush 108, 2) := dk_16 108 (dk_at dksX19_allergicOrAge_0 7 rfl rfl)
theorem dX19_allergicOrAge_9 : decode cX19_allergicOrAge 9 = .ok (.invokevirtual 37, 3) := dk_182 0 37 (dk_at dksX19_allergicOrAge_0 9 rfl rfl)
theorem dX19_allergicOrAge_12 : decode cX19_allergicOrAge 12 = .ok (.ifCond .eq 23, 3) := dk_153 0 23 (dk_at dksX19_allergicOrAge_0 12 rfl rfl)
theorem dX19_allergicOrAge_15 : decode cX19_allergicOrAge 15 = .ok (.aload_n 0, 1) := dk_42 (dk_at dksX19_allergicOrAge_0 15 rfl rfl)
theorem dX19_allergicOrAge_16 : decode cX19_allergicOrAge 16 = .ok (.ldc 92, 2) := dk_18 92 (dk_at dksX19_allergicOrAge_0 16 rfl rfl)
theorem dX19_allergicOrAge_18 : decode cX19_allergicOrAge 18 = .ok (.invokevirtual 84, 3) := dk_182 0 84 (dk_at dksX19_allergicOrAge_0 18 rfl rfl)
theorem dX19_allergicOrAge_21 : decode cX19_allergicOrAge 21 = .ok (.aload_n 0, 1) := dk_42 (dk_at dksX19_allergicOrAge_0 21 rfl rfl)
theorem dX19_allergicOrAge_22 : decode cX19_allergicOrAge 22 = .ok (.getfield 15, 3) := dk_180 0 15 (dk_at dksX19_allergicOrAge_1 0 rfl rfl)
theorem dX19_allergicOrAge_25 : decode cX19_allergicOrAge 25 = .ok (.getfield 94, 3) := dk_180 0 94 (dk_at dksX19_allergicOrAge_1 3 rfl rfl)
theorem dX19_allergicOrAge_28 : decode cX19_allergicOrAge 28 = .ok (.aload_n 0, 1) := dk_42 (dk_at dksX19_allergicOrAge_1 6 rfl rfl)
theorem dX19_allergicOrAge_29 : decode cX19_allergicOrAge 29 = .ok (.invokevirtual 98, 3) := dk_182 0 98 (dk_at dksX19_allergicOrAge_1 7 rfl rfl)
theorem dX19_allergicOrAge_32 : decode cX19_allergicOrAge 32 = .ok (.iconst 1, 1) := dk_4 (dk_at dksX19_allergicOrAge_1 10 rfl rfl)
theorem dX19_allergicOrAge_33 : decode cX19_allergicOrAge 33 = .ok (.bastore, 1) := dk_84 (dk_at dksX19_allergicOrAge_1 11 rfl rfl)
theorem dX19_allergicOrAge_34 : decode cX19_allergicOrAge 34 = .ok (.return_, 1) := dk_177 (dk_at dksX19_allergicOrAge_1 12 rfl rfl)
theorem dX19_allergicOrAge_35 : decode cX19_allergicOrAge 35 = .ok (.aload_n 0, 1) := dk_42 (dk_at dksX19_allergicOrAge_1 13 rfl rfl)
theorem dX19_allergicOrAge_36 : decode cX19_allergicOrAge 36 = .ok (.ldc 100, 2) := dk_18 100 (dk_at dksX19_allergicOrAge_1 14 rfl rfl)
theorem dX19_allergicOrAge_38 : decode cX19_allergicOrAge 38 = .ok (.invokevirtual 84, 3) := dk_182 0 84 (dk_at dksX19_allergicOrAge_1 16 rfl rfl)
theorem dX19_allergicOrAge_41 : decode cX19_allergicOrAge 41 = .ok (.aload_n 0, 1) := dk_42 (dk_at dksX19_allergicOrAge_1 19 rfl rfl)
theorem dX19_allergicOrAge_42 : decode cX19_allergicOrAge 42 = .ok (.getfield 15, 3) := dk_180 0 15 (dk_at dksX19_allergicOrAge_1 20 rfl rfl)
theorem dX19_allergicOrAge_45 : decode cX19_allergicOrAge 45 = .ok (.getfield 102, 3) := dk_180 0 102 (dk_at dksX19_allergicOrAge_2 0 rfl rfl)
theorem dX19_allergicOrAge_48 : decode cX19_allergicOrAge 48 = .ok (.aload_n 0, 1) := dk_42 (dk_at dksX19_allergicOrAge_2 3 rfl rfl)
theorem dX19_allergicOrAge_49 : decode cX19_allergicOrAge 49 = .ok (.iconst 0, 1) := dk_3 (dk_at dksX19_allergicOrAge_2 4 rfl rfl)
theorem dX19_allergicOrAge_50 : decode cX19_allergicOrAge 50 = .ok (.sipush 999, 3) := dk_17 3 231 (dk_at dksX19_allergicOrAge_2 5 rfl rfl)
theorem dX19_allergicOrAge_53 : decode cX19_allergicOrAge 53 = .ok (.invokevirtual 78, 3) := dk_182 0 78 (dk_at dksX19_allergicOrAge_2 8 rfl rfl)
theorem dX19_allergicOrAge_56 : decode cX19_allergicOrAge 56 = .ok (.putfield 106, 3) := dk_181 0 106 (dk_at dksX19_allergicOrAge_2 11 rfl rfl)
theorem dX19_allergicOrAge_59 : decode cX19_allergicOrAge 59 = .ok (.return_, 1) := dk_177 (dk_at dksX19_allergicOrAge_2 14 rfl rfl)
abbrev cX19_home : ByteArray := prog_14_method_10_code
def yX19_home : MethodName := ⟨RX19, "home", "()I"⟩
def dkwX19_home_0 : List UInt8 := [42, 3, 42, 180, 0, 15, 180, 0, 73, 4, 100, 182, 0, 78, 172]
abbrev dktX19_home_0 : List UInt8 := dkwX19_home_0 ++ []
theorem dksX19_home_0 : cX19_home.data.toList.drop 0 = dktX19_home_0 := by decide +kernel
theorem dX19_home_0 : decode cX19_home 0 = .ok (.aload_n 0, 1) := dk_42 (dk_at dksX19_home_0 0 rfl rfl)
theorem dX19_home_1 : decode cX19_home 1 = .ok (.iconst 0, 1) := dk_3 (dk_at dksX19_home_0 1 rfl rfl)
theorem dX19_home_2 : decode cX19_home 2 = .ok (.aload_n 0, 1) := dk_42 (dk_at dksX19_home_0 2 rfl rfl)
theorem dX19_home_3 : decode cX19_home 3 = .ok (.getfield 15, 3) := dk_180 0 15 (dk_at dksX19_home_0 3 rfl rfl)
theorem dX19_home_6 : decode cX19_home 6 = .ok (.getfield 73, 3) := dk_180 0 73 (dk_at dksX19_home_0 6 rfl rfl)
theorem dX19_home_9 : decode cX19_home 9 = .ok (.iconst 1, 1) := dk_4 (dk_at dksX19_home_0 9 rfl rfl)
theorem dX19_home_10 : decode cX19_home 10 = .ok (.isub, 1) := dk_100 (dk_at dksX19_home_0 10 rfl rfl)
theorem dX19_home_11 : decode cX19_home 11 = .ok (.invokevirtual 78, 3) := dk_182 0 78 (dk_at dksX19_home_0 11 rfl rfl)
theorem dX19_home_14 : decode cX19_home 14 = .ok (.ireturn, 1) := dk_172 (dk_at dksX19_home_0 14 rfl rfl)
abbrev cX19_weightOrWeek : ByteArray := prog_14_method_13_code
def yX19_weightOrWeek : MethodName := ⟨RX19, "weightOrWeek", "()V"⟩
def dkwX19_weightOrWeek_3 : List UInt8 := [180, 0, 15, 27, 182, 0, 123, 87, 177]
abbrev dktX19_weightOrWeek_3 : List UInt8 := dkwX19_weightOrWeek_3 ++ []
def dkwX19_weightOrWeek_2 : List UInt8 := [42, 182, 0, 98, 60, 42, 42, 180, 0, 15, 27, 182, 0, 120, 42, 180, 0, 56, 182, 0, 66, 42]
abbrev dktX19_weightOrWeek_2 : List UInt8 := dkwX19_weightOrWeek_2 ++ dktX19_weightOrWeek_3
def dkwX19_weightOrWeek_1 : List UInt8 := [180, 0, 15, 180, 0, 102, 42, 3, 17, 1, 144, 182, 0, 78, 181, 0, 115, 177, 42, 18, 118, 182, 0, 84]
abbrev dktX19_weightOrWeek_1 : List UInt8 := dkwX19_weightOrWeek_1 ++ dktX19_weightOrWeek_2
def dkwX19_weightOrWeek_0 : List UInt8 := [42, 18, 111, 182, 0, 84, 42, 16, 105, 182, 0, 37, 153, 0, 28, 42, 18, 113, 182, 0, 84, 42]
abbrev dktX19_weightOrWeek_0 : List UInt8 := dkwX19_weightOrWeek_0 ++ dktX19_weightOrWeek_1
theorem dksX19_weightOrWeek_0 : cX19_weightOrWeek.data.toList.drop 0 = dktX19_weightOrWeek_0 := by decide +kernel
theorem dksX19_weightOrWeek_1 : cX19_weightOrWeek.data.toList.drop 22 = dktX19_weightOrWeek_1 := dk_seg dksX19_weightOrWeek_0 22 rfl rfl
theorem dksX19_weightOrWeek_2 : cX19_weightOrWeek.data.toList.drop 46 = dktX19_weightOrWeek_2 := dk_seg dksX19_weightOrWeek_1 24 rfl rfl
theorem dksX19_weightOrWeek_3 : cX19_weightOrWeek.data.toList.drop 68 = dktX19_weightOrWeek_3 := dk_seg dksX19_weightOrWeek_2 22 rfl rfl
theorem dX19_weightOrWeek_0 : decode cX19_weightOrWeek 0 = .ok (.aload_n 0, 1) := dk_42 (dk_at dksX19_weightOrWeek_0 0 rfl rfl)
theorem dX19_weightOrWeek_1 : decode cX19_weightOrWeek 1 = .ok (.ldc 111, 2) := dk_18 111 (dk_at dksX19_weightOrWeek_0 1 rfl rfl)
theorem dX19_weightOrWeek_3 : decode cX19_weightOrWeek 3 = .ok (.invokevirtual 84, 3) := dk_182 0 84 (dk_at dksX19_weightOrWeek_0 3 rfl rfl)
theorem dX19_weightOrWeek_6 : decode cX19_weightOrWeek 6 = .ok (.aload_n 0, 1) := dk_42 (dk_at dksX19_weightOrWeek_0 6 rfl rfl)
theorem dX19_weightOrWeek_7 : decode cX19_weightOrWeek 7 = .ok (.bipush 105, 2) := dk_16 105 (dk_at dksX19_weightOrWeek_0 7 rfl rfl)
theorem dX19_weightOrWeek_9 : decode cX19_weightOrWeek 9 = .ok (.invokevirtual 37, 3) := dk_182 0 37 (dk_at dksX19_weightOrWeek_0 9 rfl rfl)
theorem dX19_weightOrWeek_12 : decode cX19_weightOrWeek 12 = .ok (.ifCond .eq 28, 3) := dk_153 0 28 (dk_at dksX19_weightOrWeek_0 12 rfl rfl)
theorem dX19_weightOrWeek_15 : decode cX19_weightOrWeek 15 = .ok (.aload_n 0, 1) := dk_42 (dk_at dksX19_weightOrWeek_0 15 rfl rfl)
theorem dX19_weightOrWeek_16 : decode cX19_weightOrWeek 16 = .ok (.ldc 113, 2) := dk_18 113 (dk_at dksX19_weightOrWeek_0 16 rfl rfl)
theorem dX19_weightOrWeek_18 : decode cX19_weightOrWeek 18 = .ok (.invokevirtual 84, 3) := dk_182 0 84 (dk_at dksX19_weightOrWeek_0 18 rfl rfl)
theorem dX19_weightOrWeek_21 : decode cX19_weightOrWeek 21 = .ok (.aload_n 0, 1) := dk_42 (dk_at dksX19_weightOrWeek_0 21 rfl rfl)
theorem dX19_weightOrWeek_22 : decode cX19_weightOrWeek 22 = .ok (.getfield 15, 3) := dk_180 0 15 (dk_at dksX19_weightOrWeek_1 0 rfl rfl)
theorem dX19_weightOrWeek_25 : decode cX19_weightOrWeek 25 = .ok (.getfield 102, 3) := dk_180 0 102 (dk_at dksX19_weightOrWeek_1 3 rfl rfl)
theorem dX19_weightOrWeek_28 : decode cX19_weightOrWeek 28 = .ok (.aload_n 0, 1) := dk_42 (dk_at dksX19_weightOrWeek_1 6 rfl rfl)
theorem dX19_weightOrWeek_29 : decode cX19_weightOrWeek 29 = .ok (.iconst 0, 1) := dk_3 (dk_at dksX19_weightOrWeek_1 7 rfl rfl)
theorem dX19_weightOrWeek_30 : decode cX19_weightOrWeek 30 = .ok (.sipush 400, 3) := dk_17 1 144 (dk_at dksX19_weightOrWeek_1 8 rfl rfl)
theorem dX19_weightOrWeek_33 : decode cX19_weightOrWeek 33 = .ok (.invokevirtual 78, 3) := dk_182 0 78 (dk_at dksX19_weightOrWeek_1 11 rfl rfl)
theorem dX19_weightOrWeek_36 : decode cX19_weightOrWeek 36 = .ok (.putfield 115, 3) := dk_181 0 115 (dk_at dksX19_weightOrWeek_1 14 rfl rfl)
theorem dX19_weightOrWeek_39 : decode cX19_weightOrWeek 39 = .ok (.return_, 1) := dk_177 (dk_at dksX19_weightOrWeek_1 17 rfl rfl)
theorem dX19_weightOrWeek_40 : decode cX19_weightOrWeek 40 = .ok (.aload_n 0, 1) := dk_42 (dk_at dksX19_weightOrWeek_1 18 rfl rfl)
theorem dX19_weightOrWeek_41 : decode cX19_weightOrWeek 41 = .ok (.ldc 118, 2) := dk_18 118 (dk_at dksX19_weightOrWeek_1 19 rfl rfl)
theorem dX19_weightOrWeek_43 : decode cX19_weightOrWeek 43 = .ok (.invokevirtual 84, 3) := dk_182 0 84 (dk_at dksX19_weightOrWeek_1 21 rfl rfl)
theorem dX19_weightOrWeek_46 : decode cX19_weightOrWeek 46 = .ok (.aload_n 0, 1) := dk_42 (dk_at dksX19_weightOrWeek_2 0 rfl rfl)
theorem dX19_weightOrWeek_47 : decode cX19_weightOrWeek 47 = .ok (.invokevirtual 98, 3) := dk_182 0 98 (dk_at dksX19_weightOrWeek_2 1 rfl rfl)
theorem dX19_weightOrWeek_50 : decode cX19_weightOrWeek 50 = .ok (.istore_n 1, 1) := dk_60 (dk_at dksX19_weightOrWeek_2 4 rfl rfl)
theorem dX19_weightOrWeek_51 : decode cX19_weightOrWeek 51 = .ok (.aload_n 0, 1) := dk_42 (dk_at dksX19_weightOrWeek_2 5 rfl rfl)
theorem dX19_weightOrWeek_52 : decode cX19_weightOrWeek 52 = .ok (.aload_n 0, 1) := dk_42 (dk_at dksX19_weightOrWeek_2 6 rfl rfl)
theorem dX19_weightOrWeek_53 : decode cX19_weightOrWeek 53 = .ok (.getfield 15, 3) := dk_180 0 15 (dk_at dksX19_weightOrWeek_2 7 rfl rfl)
theorem dX19_weightOrWeek_56 : decode cX19_weightOrWeek 56 = .ok (.iload_n 1, 1) := dk_27 (dk_at dksX19_weightOrWeek_2 10 rfl rfl)
theorem dX19_weightOrWeek_57 : decode cX19_weightOrWeek 57 = .ok (.invokevirtual 120, 3) := dk_182 0 120 (dk_at dksX19_weightOrWeek_2 11 rfl rfl)
theorem dX19_weightOrWeek_60 : decode cX19_weightOrWeek 60 = .ok (.aload_n 0, 1) := dk_42 (dk_at dksX19_weightOrWeek_2 14 rfl rfl)
theorem dX19_weightOrWeek_61 : decode cX19_weightOrWeek 61 = .ok (.getfield 56, 3) := dk_180 0 56 (dk_at dksX19_weightOrWeek_2 15 rfl rfl)
theorem dX19_weightOrWeek_64 : decode cX19_weightOrWeek 64 = .ok (.invokevirtual 66, 3) := dk_182 0 66 (dk_at dksX19_weightOrWeek_2 18 rfl rfl)
theorem dX19_weightOrWeek_67 : decode cX19_weightOrWeek 67 = .ok (.aload_n 0, 1) := dk_42 (dk_at dksX19_weightOrWeek_2 21 rfl rfl)
theorem dX19_weightOrWeek_68 : decode cX19_weightOrWeek 68 = .ok (.getfield 15, 3) := dk_180 0 15 (dk_at dksX19_weightOrWeek_3 0 rfl rfl)
theorem dX19_weightOrWeek_71 : decode cX19_weightOrWeek 71 = .ok (.iload_n 1, 1) := dk_27 (dk_at dksX19_weightOrWeek_3 3 rfl rfl)
theorem dX19_weightOrWeek_72 : decode cX19_weightOrWeek 72 = .ok (.invokevirtual 123, 3) := dk_182 0 123 (dk_at dksX19_weightOrWeek_3 4 rfl rfl)
theorem dX19_weightOrWeek_75 : decode cX19_weightOrWeek 75 = .ok (.pop, 1) := dk_87 (dk_at dksX19_weightOrWeek_3 7 rfl rfl)
theorem dX19_weightOrWeek_76 : decode cX19_weightOrWeek 76 = .ok (.return_, 1) := dk_177 (dk_at dksX19_weightOrWeek_3 8 rfl rfl)
abbrev cX19_frightOrFeed : ByteArray := prog_14_method_14_code
def yX19_frightOrFeed : MethodName := ⟨RX19, "frightOrFeed", "()V"⟩
def dkwX19_frightOrFeed_2 : List UInt8 := [180, 0, 15, 180, 0, 102, 180, 0, 133, 3, 42, 3, 16, 9, 182, 0, 78, 79, 177]
abbrev dktX19_frightOrFeed_2 : List UInt8 := dkwX19_frightOrFeed_2 ++ []
def dkwX19_frightOrFeed_1 : List UInt8 := [180, 0, 15, 180, 0, 102, 42, 3, 16, 99, 182, 0, 78, 181, 0, 128, 177, 42, 18, 131, 182, 0, 84, 42]
abbrev dktX19_frightOrFeed_1 : List UInt8 := dkwX19_frightOrFeed_1 ++ dktX19_frightOrFeed_2
def dkwX19_frightOrFeed_0 : List UInt8 := [42, 16, 102, 182, 0, 53, 42, 16, 114, 182, 0, 37, 153, 0, 27, 42, 18, 126, 182, 0, 84, 42]
abbrev dktX19_frightOrFeed_0 : List UInt8 := dkwX19_frightOrFeed_0 ++ dktX19_frightOrFeed_1
theorem dksX19_frightOrFeed_0 : cX19_frightOrFeed.data.toList.drop 0 = dktX19_frightOrFeed_0 := by decide +kernel
theorem dksX19_frightOrFeed_1 : cX19_frightOrFeed.data.toList.drop 22 = dktX19_frightOrFeed_1 := dk_seg dksX19_frightOrFeed_0 22 rfl rfl
theorem dksX19_frightOrFeed_2 : cX19_frightOrFeed.data.toList.drop 46 = dktX19_frightOrFeed_2 := dk_seg dksX19_frightOrFeed_1 24 rfl rfl
theorem dX19_frightOrFeed_0 : decode cX19_frightOrFeed 0 = .ok (.aload_n 0, 1) := dk_42 (dk_at dksX19_frightOrFeed_0 0 rfl rfl)
theorem dX19_frightOrFeed_1 : decode cX19_frightOrFeed 1 = .ok (.bipush 102, 2) := dk_16 102 (dk_at dksX19_frightOrFeed_0 1 rfl rfl)
theorem dX19_frightOrFeed_3 : decode cX19_frightOrFeed 3 = .ok (.invokevirtual 53, 3) := dk_182 0 53 (dk_at dksX19_frightOrFeed_0 3 rfl rfl)
theorem dX19_frightOrFeed_6 : decode cX19_frightOrFeed 6 = .ok (.aload_n 0, 1) := dk_42 (dk_at dksX19_frightOrFeed_0 6 rfl rfl)
theorem dX19_frightOrFeed_7 : decode cX19_frightOrFeed 7 = .ok (.bipush 114, 2) := dk_16 114 (dk_at dksX19_frightOrFeed_0 7 rfl rfl)
theorem dX19_frightOrFeed_9 : decode cX19_frightOrFeed 9 = .ok (.invokevirtual 37, 3) := dk_182 0 37 (dk_at dksX19_frightOrFeed_0 9 rfl rfl)
theorem dX19_frightOrFeed_12 : decode cX19_frightOrFeed 12 = .ok (.ifCond .eq 27, 3) := dk_153 0 27 (dk_at dksX19_frightOrFeed_0 12 rfl rfl)
theorem dX19_frightOrFeed_15 : decode cX19_frightOrFeed 15 = .ok (.aload_n 0, 1) := dk_42 (dk_at dksX19_frightOrFeed_0 15 rfl rfl)
theorem dX19_frightOrFeed_16 : decode cX19_frightOrFeed 16 = .ok (.ldc 126, 2) := dk_18 126 (dk_at dksX19_frightOrFeed_0 16 rfl rfl)
theorem dX19_frightOrFeed_18 : decode cX19_frightOrFeed 18 = .ok (.invokevirtual 84, 3) := dk_182 0 84 (dk_at dksX19_frightOrFeed_0 18 rfl rfl)
theorem dX19_frightOrFeed_21 : decode cX19_frightOrFeed 21 = .ok (.aload_n 0, 1) := dk_42 (dk_at dksX19_frightOrFeed_0 21 rfl rfl)
theorem dX19_frightOrFeed_22 : decode cX19_frightOrFeed 22 = .ok (.getfield 15, 3) := dk_180 0 15 (dk_at dksX19_frightOrFeed_1 0 rfl rfl)
theorem dX19_frightOrFeed_25 : decode cX19_frightOrFeed 25 = .ok (.getfield 102, 3) := dk_180 0 102 (dk_at dksX19_frightOrFeed_1 3 rfl rfl)
theorem dX19_frightOrFeed_28 : decode cX19_frightOrFeed 28 = .ok (.aload_n 0, 1) := dk_42 (dk_at dksX19_frightOrFeed_1 6 rfl rfl)
theorem dX19_frightOrFeed_29 : decode cX19_frightOrFeed 29 = .ok (.iconst 0, 1) := dk_3 (dk_at dksX19_frightOrFeed_1 7 rfl rfl)
theorem dX19_frightOrFeed_30 : decode cX19_frightOrFeed 30 = .ok (.bipush 99, 2) := dk_16 99 (dk_at dksX19_frightOrFeed_1 8 rfl rfl)
theorem dX19_frightOrFeed_32 : decode cX19_frightOrFeed 32 = .ok (.invokevirtual 78, 3) := dk_182 0 78 (dk_at dksX19_frightOrFeed_1 10 rfl rfl)
theorem dX19_frightOrFeed_35 : decode cX19_frightOrFeed 35 = .ok (.putfield 128, 3) := dk_181 0 128 (dk_at dksX19_frightOrFeed_1 13 rfl rfl)
theorem dX19_frightOrFeed_38 : decode cX19_frightOrFeed 38 = .ok (.return_, 1) := dk_177 (dk_at dksX19_frightOrFeed_1 16 rfl rfl)
theorem dX19_frightOrFeed_39 : decode cX19_frightOrFeed 39 = .ok (.aload_n 0, 1) := dk_42 (dk_at dksX19_frightOrFeed_1 17 rfl rfl)
theorem dX19_frightOrFeed_40 : decode cX19_frightOrFeed 40 = .ok (.ldc 131, 2) := dk_18 131 (dk_at dksX19_frightOrFeed_1 18 rfl rfl)
theorem dX19_frightOrFeed_42 : decode cX19_frightOrFeed 42 = .ok (.invokevirtual 84, 3) := dk_182 0 84 (dk_at dksX19_frightOrFeed_1 20 rfl rfl)
theorem dX19_frightOrFeed_45 : decode cX19_frightOrFeed 45 = .ok (.aload_n 0, 1) := dk_42 (dk_at dksX19_frightOrFeed_1 23 rfl rfl)
theorem dX19_frightOrFeed_46 : decode cX19_frightOrFeed 46 = .ok (.getfield 15, 3) := dk_180 0 15 (dk_at dksX19_frightOrFeed_2 0 rfl rfl)
theorem dX19_frightOrFeed_49 : decode cX19_frightOrFeed 49 = .ok (.getfield 102, 3) := dk_180 0 102 (dk_at dksX19_frightOrFeed_2 3 rfl rfl)
theorem dX19_frightOrFeed_52 : decode cX19_frightOrFeed 52 = .ok (.getfield 133, 3) := dk_180 0 133 (dk_at dksX19_frightOrFeed_2 6 rfl rfl)
theorem dX19_frightOrFeed_55 : decode cX19_frightOrFeed 55 = .ok (.iconst 0, 1) := dk_3 (dk_at dksX19_frightOrFeed_2 9 rfl rfl)
theorem dX19_frightOrFeed_56 : decode cX19_frightOrFeed 56 = .ok (.aload_n 0, 1) := dk_42 (dk_at dksX19_frightOrFeed_2 10 rfl rfl)
theorem dX19_frightOrFeed_57 : decode cX19_frightOrFeed 57 = .ok (.iconst 0, 1) := dk_3 (dk_at dksX19_frightOrFeed_2 11 rfl rfl)
theorem dX19_frightOrFeed_58 : decode cX19_frightOrFeed 58 = .ok (.bipush 9, 2) := dk_16 9 (dk_at dksX19_frightOrFeed_2 12 rfl rfl)
theorem dX19_frightOrFeed_60 : decode cX19_frightOrFeed 60 = .ok (.invokevirtual 78, 3) := dk_182 0 78 (dk_at dksX19_frightOrFeed_2 14 rfl rfl)
theorem dX19_frightOrFeed_63 : decode cX19_frightOrFeed 63 = .ok (.iastore, 1) := dk_79 (dk_at dksX19_frightOrFeed_2 17 rfl rfl)
theorem dX19_frightOrFeed_64 : decode cX19_frightOrFeed 64 = .ok (.return_, 1) := dk_177 (dk_at dksX19_frightOrFeed_2 18 rfl rfl)
abbrev cX19_lifeOrLow : ByteArray := prog_14_method_15_code
def yX19_lifeOrLow : MethodName := ⟨RX19, "lifeOrLow", "()V"⟩
def dkwX19_lifeOrLow_2 : List UInt8 := [182, 0, 84, 42, 180, 0, 15, 180, 0, 102, 180, 0, 133, 5, 42, 3, 17, 0, 200, 182, 0, 78, 79, 177]
abbrev dktX19_lifeOrLow_2 : List UInt8 := dkwX19_lifeOrLow_2 ++ []
def dkwX19_lifeOrLow_1 : List UInt8 := [180, 0, 15, 180, 0, 102, 180, 0, 133, 4, 42, 4, 17, 3, 231, 182, 0, 78, 79, 177, 42, 18, 139]
abbrev dktX19_lifeOrLow_1 : List UInt8 := dkwX19_lifeOrLow_1 ++ dktX19_lifeOrLow_2
def dkwX19_lifeOrLow_0 : List UInt8 := [42, 16, 108, 182, 0, 53, 42, 16, 105, 182, 0, 37, 153, 0, 30, 42, 18, 137, 182, 0, 84, 42]
abbrev dktX19_lifeOrLow_0 : List UInt8 := dkwX19_lifeOrLow_0 ++ dktX19_lifeOrLow_1
theorem dksX19_lifeOrLow_0 : cX19_lifeOrLow.data.toList.drop 0 = dktX19_lifeOrLow_0 := by decide +kernel
theorem dksX19_lifeOrLow_1 : cX19_lifeOrLow.data.toList.drop 22 = dktX19_lifeOrLow_1 := dk_seg dksX19_lifeOrLow_0 22 rfl rfl
theorem dksX19_lifeOrLow_2 : cX19_lifeOrLow.data.toList.drop 45 = dktX19_lifeOrLow_2 := dk_seg dksX19_lifeOrLow_1 23 rfl rfl
theorem dX19_lifeOrLow_0 : decode cX19_lifeOrLow 0 = .ok (.aload_n 0, 1) := dk_42 (dk_at dksX19_lifeOrLow_0 0 rfl rfl)
theorem dX19_lifeOrLow_1 : decode cX19_lifeOrLow 1 = .ok (.bipush 108, 2) := dk_16 108 (dk_at dksX19_lifeOrLow_0 1 rfl rfl)
theorem dX19_lifeOrLow_3 : decode cX19_lifeOrLow 3 = .ok (.invokevirtual 53, 3) := dk_182 0 53 (dk_at dksX19_lifeOrLow_0 3 rfl rfl)
theorem dX19_lifeOrLow_6 : decode cX19_lifeOrLow 6 = .ok (.aload_n 0, 1) := dk_42 (dk_at dksX19_lifeOrLow_0 6 rfl rfl)
theorem dX19_lifeOrLow_7 : decode cX19_lifeOrLow 7 = .ok (.bipush 105, 2) := dk_16 105 (dk_at dksX19_lifeOrLow_0 7 rfl rfl)
theorem dX19_lifeOrLow_9 : decode cX19_lifeOrLow 9 = .ok (.invokevirtual 37, 3) := dk_182 0 37 (dk_at dksX19_lifeOrLow_0 9 rfl rfl)
theorem dX19_lifeOrLow_12 : decode cX19_lifeOrLow 12 = .ok (.ifCond .eq 30, 3) := dk_153 0 30 (dk_at dksX19_lifeOrLow_0 12 rfl rfl)
theorem dX19_lifeOrLow_15 : decode cX19_lifeOrLow 15 = .ok (.aload_n 0, 1) := dk_42 (dk_at dksX19_lifeOrLow_0 15 rfl rfl)
theorem dX19_lifeOrLow_16 : decode cX19_lifeOrLow 16 = .ok (.ldc 137, 2) := dk_18 137 (dk_at dksX19_lifeOrLow_0 16 rfl rfl)
theorem dX19_lifeOrLow_18 : decode cX19_lifeOrLow 18 = .ok (.invokevirtual 84, 3) := dk_182 0 84 (dk_at dksX19_lifeOrLow_0 18 rfl rfl)
theorem dX19_lifeOrLow_21 : decode cX19_lifeOrLow 21 = .ok (.aload_n 0, 1) := dk_42 (dk_at dksX19_lifeOrLow_0 21 rfl rfl)
theorem dX19_lifeOrLow_22 : decode cX19_lifeOrLow 22 = .ok (.getfield 15, 3) := dk_180 0 15 (dk_at dksX19_lifeOrLow_1 0 rfl rfl)
theorem dX19_lifeOrLow_25 : decode cX19_lifeOrLow 25 = .ok (.getfield 102, 3) := dk_180 0 102 (dk_at dksX19_lifeOrLow_1 3 rfl rfl)
theorem dX19_lifeOrLow_28 : decode cX19_lifeOrLow 28 = .ok (.getfield 133, 3) := dk_180 0 133 (dk_at dksX19_lifeOrLow_1 6 rfl rfl)
theorem dX19_lifeOrLow_31 : decode cX19_lifeOrLow 31 = .ok (.iconst 1, 1) := dk_4 (dk_at dksX19_lifeOrLow_1 9 rfl rfl)
theorem dX19_lifeOrLow_32 : decode cX19_lifeOrLow 32 = .ok (.aload_n 0, 1) := dk_42 (dk_at dksX19_lifeOrLow_1 10 rfl rfl)
theorem dX19_lifeOrLow_33 : decode cX19_lifeOrLow 33 = .ok (.iconst 1, 1) := dk_4 (dk_at dksX19_lifeOrLow_1 11 rfl rfl)
theorem dX19_lifeOrLow_34 : decode cX19_lifeOrLow 34 = .ok (.sipush 999, 3) := dk_17 3 231 (dk_at dksX19_lifeOrLow_1 12 rfl rfl)
theorem dX19_lifeOrLow_37 : decode cX19_lifeOrLow 37 = .ok (.invokevirtual 78, 3) := dk_182 0 78 (dk_at dksX19_lifeOrLow_1 15 rfl rfl)
theorem dX19_lifeOrLow_40 : decode cX19_lifeOrLow 40 = .ok (.iastore, 1) := dk_79 (dk_at dksX19_lifeOrLow_1 18 rfl rfl)
theorem dX19_lifeOrLow_41 : decode cX19_lifeOrLow 41 = .ok (.return_, 1) := dk_177 (dk_at dksX19_lifeOrLow_1 19 rfl rfl)
theorem dX19_lifeOrLow_42 : decode cX19_lifeOrLow 42 = .ok (.aload_n 0, 1) := dk_42 (dk_at dksX19_lifeOrLow_1 20 rfl rfl)
theorem dX19_lifeOrLow_43 : decode cX19_lifeOrLow 43 = .ok (.ldc 139, 2) := dk_18 139 (dk_at dksX19_lifeOrLow_1 21 rfl rfl)
theorem dX19_lifeOrLow_45 : decode cX19_lifeOrLow 45 = .ok (.invokevirtual 84, 3) := dk_182 0 84 (dk_at dksX19_lifeOrLow_2 0 rfl rfl)
theorem dX19_lifeOrLow_48 : decode cX19_lifeOrLow 48 = .ok (.aload_n 0, 1) := dk_42 (dk_at dksX19_lifeOrLow_2 3 rfl rfl)
theorem dX19_lifeOrLow_49 : decode cX19_lifeOrLow 49 = .ok (.getfield 15, 3) := dk_180 0 15 (dk_at dksX19_lifeOrLow_2 4 rfl rfl)
theorem dX19_lifeOrLow_52 : decode cX19_lifeOrLow 52 = .ok (.getfield 102, 3) := dk_180 0 102 (dk_at dksX19_lifeOrLow_2 7 rfl rfl)
theorem dX19_lifeOrLow_55 : decode cX19_lifeOrLow 55 = .ok (.getfield 133, 3) := dk_180 0 133 (dk_at dksX19_lifeOrLow_2 10 rfl rfl)
theorem dX19_lifeOrLow_58 : decode cX19_lifeOrLow 58 = .ok (.iconst 2, 1) := dk_5 (dk_at dksX19_lifeOrLow_2 13 rfl rfl)
theorem dX19_lifeOrLow_59 : decode cX19_lifeOrLow 59 = .ok (.aload_n 0, 1) := dk_42 (dk_at dksX19_lifeOrLow_2 14 rfl rfl)
theorem dX19_lifeOrLow_60 : decode cX19_lifeOrLow 60 = .ok (.iconst 0, 1) := dk_3 (dk_at dksX19_lifeOrLow_2 15 rfl rfl)
theorem dX19_lifeOrLow_61 : decode cX19_lifeOrLow 61 = .ok (.sipush 200, 3) := dk_17 0 200 (dk_at dksX19_lifeOrLow_2 16 rfl rfl)
theorem dX19_lifeOrLow_64 : decode cX19_lifeOrLow 64 = .ok (.invokevirtual 78, 3) := dk_182 0 78 (dk_at dksX19_lifeOrLow_2 19 rfl rfl)
theorem dX19_lifeOrLow_67 : decode cX19_lifeOrLow 67 = .ok (.iastore, 1) := dk_79 (dk_at dksX19_lifeOrLow_2 22 rfl rfl)
theorem dX19_lifeOrLow_68 : decode cX19_lifeOrLow 68 = .ok (.return_, 1) := dk_177 (dk_at dksX19_lifeOrLow_2 23 rfl rfl)
theorem q109 : (Jvm.Cond.initialized "HamsterWeekends$Reader") ∈ lw_all := lw_g (lw_at lw_m1 30 rfl) rfl
theorem q148 : (Jvm.Cond.fieldLink "HamsterWeekends$Reader" (115 : Nat) "HamsterWeekends$Pet" "weight" "I") ∈ lw_all := lw_g (lw_at lw_m1 69 rfl) rfl
theorem q153 : (Jvm.Cond.fieldLink "HamsterWeekends$Reader" (128 : Nat) "HamsterWeekends$Pet" "fright" "I") ∈ lw_all := lw_g (lw_at lw_m1 74 rfl) rfl
theorem q156 : (Jvm.Cond.fieldLink "HamsterWeekends$Reader" (106 : Nat) "HamsterWeekends$Pet" "age" "I") ∈ lw_all := lw_g (lw_at lw_m1 77 rfl) rfl
theorem q159 : (Jvm.Cond.fieldLink "HamsterWeekends$Reader" (133 : Nat) "HamsterWeekends$Pet" "asked" "[I") ∈ lw_all := lw_g (lw_at lw_m1 80 rfl) rfl
theorem q181 : (Jvm.Cond.fieldLink "HamsterWeekends$Reader" (73 : Nat) "HamsterWeekends$Room" "many" "I") ∈ lw_all := lw_g (lw_at lw_m1 102 rfl) rfl
theorem q190 : (Jvm.Cond.fieldLink "HamsterWeekends$Reader" (102 : Nat) "HamsterWeekends$Room" "pet" "LHamsterWeekends$Pet;") ∈ lw_all := lw_g (lw_at lw_m1 111 rfl) rfl
theorem q195 : (Jvm.Cond.fieldLink "HamsterWeekends$Reader" (158 : Nat) "HamsterWeekends$Room" "marks" "[I") ∈ lw_all := lw_g (lw_at lw_m1 116 rfl) rfl
theorem q201 : (Jvm.Cond.fieldLink "HamsterWeekends$Reader" (94 : Nat) "HamsterWeekends$Room" "allergic" "[Z") ∈ lw_all := lw_g (lw_at lw_m1 122 rfl) rfl
theorem q802 : (Jvm.Cond.instantiable "HamsterWeekends$Reader" (4 : Nat)) ∈ lw_all := lw_g (lw_at lw_m4 3 rfl) rfl
theorem q804 : (Jvm.Cond.instanceMethod ({ cls := "HamsterWeekends$Reader", name := "<init>", desc := "(LHamsterWeekends$Row;LHamsterWeekends$Room;)V" } : Jvm.MethodName)) ∈ lw_all := lw_g (lw_at lw_m4 5 rfl) rfl
theorem q805 : (Jvm.Cond.code ({ cls := "HamsterWeekends$Reader", name := "<init>", desc := "(LHamsterWeekends$Row;LHamsterWeekends$Room;)V" } : Jvm.MethodName) prog_14_method_1_code (3 : Nat) (Option.none : Option Jvm.ClassFile.FieldType)) ∈ lw_all := lw_g (lw_at lw_m4 6 rfl) rfl
theorem q806 : (Jvm.Cond.methodLink "HamsterWeekends$Reader" (3 : Nat) ({ cls := "java/lang/Object", name := "<init>", desc := "()V" } : Jvm.MethodName)) ∈ lw_all := lw_g (lw_at lw_m4 7 rfl) rfl
theorem q807 : (Jvm.Cond.fieldLink "HamsterWeekends$Reader" (9 : Nat) "HamsterWeekends$Reader" "text" "LHamsterWeekends$Row;") ∈ lw_all := lw_g (lw_at lw_m4 8 rfl) rfl
theorem q808 : (Jvm.Cond.fieldLink "HamsterWeekends$Reader" (15 : Nat) "HamsterWeekends$Reader" "w" "LHamsterWeekends$Room;") ∈ lw_all := lw_g (lw_at lw_m4 9 rfl) rfl
theorem q809 : (Jvm.Cond.fieldLink "HamsterWeekends$Reader" (19 : Nat) "HamsterWeekends$Reader" "at" "I") ∈ lw_all := lw_g (lw_at lw_m4 10 rfl) rfl
theorem q810 : (Jvm.Cond.fieldLink "HamsterWeekends$Reader" (56 : Nat) "HamsterWeekends$Reader" "place" "I") ∈ lw_all := lw_g (lw_at lw_m4 11 rfl) rfl
theorem q811 : (Jvm.Cond.laysFinal "HamsterWeekends$Reader" "HamsterWeekends$Reader" "text" "LHamsterWeekends$Row;") ∈ lw_all := lw_g (lw_at lw_m4 12 rfl) rfl
theorem q812 : (Jvm.Cond.soleField "HamsterWeekends$Reader" "text") ∈ lw_all := lw_g (lw_at lw_m4 13 rfl) rfl
theorem q813 : (Jvm.Cond.laysFinal "HamsterWeekends$Reader" "HamsterWeekends$Reader" "w" "LHamsterWeekends$Room;") ∈ lw_all := lw_g (lw_at lw_m4 14 rfl) rfl
theorem q814 : (Jvm.Cond.soleField "HamsterWeekends$Reader" "w") ∈ lw_all := lw_g (lw_at lw_m4 15 rfl) rfl
theorem q815 : (Jvm.Cond.lays "HamsterWeekends$Reader" "HamsterWeekends$Reader" "at" "I") ∈ lw_all := lw_g (lw_at lw_m4 16 rfl) rfl
theorem q816 : (Jvm.Cond.soleField "HamsterWeekends$Reader" "at") ∈ lw_all := lw_g (lw_at lw_m4 17 rfl) rfl
theorem q817 : (Jvm.Cond.lays "HamsterWeekends$Reader" "HamsterWeekends$Reader" "place" "I") ∈ lw_all := lw_g (lw_at lw_m4 18 rfl) rfl
theorem q818 : (Jvm.Cond.soleField "HamsterWeekends$Reader" "place") ∈ lw_all := lw_g (lw_at lw_m4 19 rfl) rfl
theorem q819 : (Jvm.Cond.superclass "HamsterWeekends$Reader" "java/lang/Object") ∈ lw_all := lw_g (lw_at lw_m4 20 rfl) rfl
theorem q821 : (Jvm.Cond.instanceMethod ({ cls := "HamsterWeekends$Reader", name := "items", desc := "()I" } : Jvm.MethodName)) ∈ lw_all := lw_g (lw_at lw_m4 22 rfl) rfl
theorem q822 : (Jvm.Cond.selects "HamsterWeekends$Reader" ({ cls := "HamsterWeekends$Reader", name := "items", desc := "()I" } : Jvm.MethodName) ({ cls := "HamsterWeekends$Reader", name := "items", desc := "()I" } : Jvm.MethodName)) ∈ lw_all := lw_g (lw_at lw_m4 23 rfl) rfl
theorem q823 : (Jvm.Cond.code ({ cls := "HamsterWeekends$Reader", name := "items", desc := "()I" } : Jvm.MethodName) prog_14_method_9_code (2 : Nat) (Option.some Jvm.ClassFile.FieldType.int)) ∈ lw_all := lw_g (lw_at lw_m4 24 rfl) rfl
theorem q824 : (Jvm.Cond.methodLink "HamsterWeekends$Reader" (70 : Nat) ({ cls := "HamsterWeekends$Reader", name := "item", desc := "()V" } : Jvm.MethodName)) ∈ lw_all := lw_g (lw_at lw_m4 25 rfl) rfl
theorem q825 : (Jvm.Cond.privateMethod ({ cls := "HamsterWeekends$Reader", name := "item", desc := "()V" } : Jvm.MethodName)) ∈ lw_tbl := lw_at lw_m4 26 rfl
theorem q826 : (Jvm.Cond.instanceMethod ({ cls := "HamsterWeekends$Reader", name := "item", desc := "()V" } : Jvm.MethodName)) ∈ lw_all := lw_g (lw_at lw_m4 27 rfl) rfl
theorem q827 : (Jvm.Cond.code ({ cls := "HamsterWeekends$Reader", name := "item", desc := "()V" } : Jvm.MethodName) prog_14_method_16_code (3 : Nat) (Option.none : Option Jvm.ClassFile.FieldType)) ∈ lw_all := lw_g (lw_at lw_m4 28 rfl) rfl
theorem q828 : (Jvm.Cond.methodLink "HamsterWeekends$Reader" (37 : Nat) ({ cls := "HamsterWeekends$Reader", name := "sees", desc := "(I)Z" } : Jvm.MethodName)) ∈ lw_all := lw_g (lw_at lw_m4 29 rfl) rfl
theorem q829 : (Jvm.Cond.privateMethod ({ cls := "HamsterWeekends$Reader", name := "sees", desc := "(I)Z" } : Jvm.MethodName)) ∈ lw_tbl := lw_at lw_m4 30 rfl
theorem q830 : (Jvm.Cond.instanceMethod ({ cls := "HamsterWeekends$Reader", name := "sees", desc := "(I)Z" } : Jvm.MethodName)) ∈ lw_all := lw_g (lw_at lw_m4 31 rfl) rfl
theorem q831 : (Jvm.Cond.code ({ cls := "HamsterWeekends$Reader", name := "sees", desc := "(I)Z" } : Jvm.MethodName) prog_14_method_3_code (2 : Nat) (Option.some Jvm.ClassFile.FieldType.boolean)) ∈ lw_all := lw_g (lw_at lw_m4 32 rfl) rfl
theorem q832 : (Jvm.Cond.methodLink "HamsterWeekends$Reader" (29 : Nat) ({ cls := "HamsterWeekends$Reader", name := "ends", desc := "()Z" } : Jvm.MethodName)) ∈ lw_all := lw_g (lw_at lw_m4 33 rfl) rfl
theorem q833 : (Jvm.Cond.privateMethod ({ cls := "HamsterWeekends$Reader", name := "ends", desc := "()Z" } : Jvm.MethodName)) ∈ lw_tbl := lw_at lw_m4 34 rfl
theorem q834 : (Jvm.Cond.instanceMethod ({ cls := "HamsterWeekends$Reader", name := "ends", desc := "()Z" } : Jvm.MethodName)) ∈ lw_all := lw_g (lw_at lw_m4 35 rfl) rfl
theorem q835 : (Jvm.Cond.code ({ cls := "HamsterWeekends$Reader", name := "ends", desc := "()Z" } : Jvm.MethodName) prog_14_method_2_code (1 : Nat) (Option.some Jvm.ClassFile.FieldType.boolean)) ∈ lw_all := lw_g (lw_at lw_m4 36 rfl) rfl
theorem q836 : (Jvm.Cond.methodLink "HamsterWeekends$Reader" (23 : Nat) ({ cls := "HamsterWeekends$Row", name := "length", desc := "()I" } : Jvm.MethodName)) ∈ lw_all := lw_g (lw_at lw_m4 37 rfl) rfl
theorem q851 : (Jvm.Cond.methodLink "HamsterWeekends$Reader" (33 : Nat) ({ cls := "HamsterWeekends$Row", name := "asInt", desc := "(I)I" } : Jvm.MethodName)) ∈ lw_all := lw_g (lw_at lw_m4 52 rfl) rfl
theorem q860 : (Jvm.Cond.methodLink "HamsterWeekends$Reader" (141 : Nat) ({ cls := "HamsterWeekends$Reader", name := "newHome", desc := "(I)V" } : Jvm.MethodName)) ∈ lw_all := lw_g (lw_at lw_m4 61 rfl) rfl
theorem q861 : (Jvm.Cond.privateMethod ({ cls := "HamsterWeekends$Reader", name := "newHome", desc := "(I)V" } : Jvm.MethodName)) ∈ lw_tbl := lw_at lw_m4 62 rfl
theorem q862 : (Jvm.Cond.instanceMethod ({ cls := "HamsterWeekends$Reader", name := "newHome", desc := "(I)V" } : Jvm.MethodName)) ∈ lw_all := lw_g (lw_at lw_m4 63 rfl) rfl
theorem q863 : (Jvm.Cond.code ({ cls := "HamsterWeekends$Reader", name := "newHome", desc := "(I)V" } : Jvm.MethodName) prog_14_method_11_code (3 : Nat) (Option.none : Option Jvm.ClassFile.FieldType)) ∈ lw_all := lw_g (lw_at lw_m4 64 rfl) rfl
theorem q864 : (Jvm.Cond.stringRef "HamsterWeekends$Reader" (82 : Nat) "home") ∈ lw_tbl := lw_at lw_m4 65 rfl
theorem q865 : (Jvm.Cond.methodLink "HamsterWeekends$Reader" (84 : Nat) ({ cls := "HamsterWeekends$Reader", name := "word", desc := "(Ljava/lang/String;)V" } : Jvm.MethodName)) ∈ lw_all := lw_g (lw_at lw_m4 66 rfl) rfl
theorem q866 : (Jvm.Cond.privateMethod ({ cls := "HamsterWeekends$Reader", name := "word", desc := "(Ljava/lang/String;)V" } : Jvm.MethodName)) ∈ lw_tbl := lw_at lw_m4 67 rfl
theorem q867 : (Jvm.Cond.instanceMethod ({ cls := "HamsterWeekends$Reader", name := "word", desc := "(Ljava/lang/String;)V" } : Jvm.MethodName)) ∈ lw_all := lw_g (lw_at lw_m4 68 rfl) rfl
theorem q868 : (Jvm.Cond.code ({ cls := "HamsterWeekends$Reader", name := "word", desc := "(Ljava/lang/String;)V" } : Jvm.MethodName) prog_14_method_5_code (3 : Nat) (Option.none : Option Jvm.ClassFile.FieldType)) ∈ lw_all := lw_g (lw_at lw_m4 69 rfl) rfl
theorem q869 : (Jvm.Cond.methodLink "HamsterWeekends$Reader" (46 : Nat) ({ cls := "java/lang/String", name := "length", desc := "()I" } : Jvm.MethodName)) ∈ lw_all := lw_g (lw_at lw_m4 70 rfl) rfl
theorem q879 : (Jvm.Cond.methodLink "HamsterWeekends$Reader" (49 : Nat) ({ cls := "java/lang/String", name := "charAt", desc := "(I)C" } : Jvm.MethodName)) ∈ lw_all := lw_g (lw_at lw_m4 80 rfl) rfl
theorem q917 : (Jvm.Cond.methodLink "HamsterWeekends$Reader" (53 : Nat) ({ cls := "HamsterWeekends$Reader", name := "must", desc := "(I)V" } : Jvm.MethodName)) ∈ lw_all := lw_g (lw_at lw_m4 118 rfl) rfl
theorem q918 : (Jvm.Cond.privateMethod ({ cls := "HamsterWeekends$Reader", name := "must", desc := "(I)V" } : Jvm.MethodName)) ∈ lw_tbl := lw_at lw_m4 119 rfl
theorem q919 : (Jvm.Cond.instanceMethod ({ cls := "HamsterWeekends$Reader", name := "must", desc := "(I)V" } : Jvm.MethodName)) ∈ lw_all := lw_g (lw_at lw_m4 120 rfl) rfl
theorem q920 : (Jvm.Cond.code ({ cls := "HamsterWeekends$Reader", name := "must", desc := "(I)V" } : Jvm.MethodName) prog_14_method_4_code (2 : Nat) (Option.none : Option Jvm.ClassFile.FieldType)) ∈ lw_all := lw_g (lw_at lw_m4 121 rfl) rfl
theorem q921 : (Jvm.Cond.classLink "HamsterWeekends$Reader" (41 : Nat) "HamsterWeekends$Faulty") ∈ lw_all := lw_g (lw_at lw_m4 122 rfl) rfl
theorem q930 : (Jvm.Cond.methodLink "HamsterWeekends$Reader" (43 : Nat) ({ cls := "HamsterWeekends$Faulty", name := "<init>", desc := "(I)V" } : Jvm.MethodName)) ∈ lw_all := lw_g (lw_at lw_m4 131 rfl) rfl
theorem q940 : (Jvm.Cond.methodLink "HamsterWeekends$Reader" (66 : Nat) ({ cls := "HamsterWeekends$Reader", name := "hasRoom", desc := "(ZI)V" } : Jvm.MethodName)) ∈ lw_all := lw_g (lw_at lw_m4 141 rfl) rfl
theorem q941 : (Jvm.Cond.privateMethod ({ cls := "HamsterWeekends$Reader", name := "hasRoom", desc := "(ZI)V" } : Jvm.MethodName)) ∈ lw_tbl := lw_at lw_m4 142 rfl
theorem q942 : (Jvm.Cond.instanceMethod ({ cls := "HamsterWeekends$Reader", name := "hasRoom", desc := "(ZI)V" } : Jvm.MethodName)) ∈ lw_all := lw_g (lw_at lw_m4 143 rfl) rfl
theorem q943 : (Jvm.Cond.code ({ cls := "HamsterWeekends$Reader", name := "hasRoom", desc := "(ZI)V" } : Jvm.MethodName) prog_14_method_8_code (3 : Nat) (Option.none : Option Jvm.ClassFile.FieldType)) ∈ lw_all := lw_g (lw_at lw_m4 144 rfl) rfl
theorem q944 : (Jvm.Cond.methodLink "HamsterWeekends$Reader" (78 : Nat) ({ cls := "HamsterWeekends$Reader", name := "number", desc := "(II)I" } : Jvm.MethodName)) ∈ lw_all := lw_g (lw_at lw_m4 145 rfl) rfl
theorem q945 : (Jvm.Cond.privateMethod ({ cls := "HamsterWeekends$Reader", name := "number", desc := "(II)I" } : Jvm.MethodName)) ∈ lw_tbl := lw_at lw_m4 146 rfl
theorem q946 : (Jvm.Cond.instanceMethod ({ cls := "HamsterWeekends$Reader", name := "number", desc := "(II)I" } : Jvm.MethodName)) ∈ lw_all := lw_g (lw_at lw_m4 147 rfl) rfl
theorem q947 : (Jvm.Cond.code ({ cls := "HamsterWeekends$Reader", name := "number", desc := "(II)I" } : Jvm.MethodName) prog_14_method_7_code (5 : Nat) (Option.some Jvm.ClassFile.FieldType.int)) ∈ lw_all := lw_g (lw_at lw_m4 148 rfl) rfl
theorem q948 : (Jvm.Cond.methodLink "HamsterWeekends$Reader" (59 : Nat) ({ cls := "HamsterWeekends$Reader", name := "digit", desc := "()Z" } : Jvm.MethodName)) ∈ lw_all := lw_g (lw_at lw_m4 149 rfl) rfl
theorem q949 : (Jvm.Cond.privateMethod ({ cls := "HamsterWeekends$Reader", name := "digit", desc := "()Z" } : Jvm.MethodName)) ∈ lw_tbl := lw_at lw_m4 150 rfl
theorem q950 : (Jvm.Cond.instanceMethod ({ cls := "HamsterWeekends$Reader", name := "digit", desc := "()Z" } : Jvm.MethodName)) ∈ lw_all := lw_g (lw_at lw_m4 151 rfl) rfl
theorem q951 : (Jvm.Cond.code ({ cls := "HamsterWeekends$Reader", name := "digit", desc := "()Z" } : Jvm.MethodName) prog_14_method_6_code (1 : Nat) (Option.some Jvm.ClassFile.FieldType.boolean)) ∈ lw_all := lw_g (lw_at lw_m4 152 rfl) rfl
theorem q952 : (Jvm.Cond.methodLink "HamsterWeekends$Reader" (62 : Nat) ({ cls := "HamsterWeekends", name := "in", desc := "(JJJ)Z" } : Jvm.MethodName)) ∈ lw_all := lw_g (lw_at lw_m4 153 rfl) rfl
theorem q953 : (Jvm.Cond.methodLink "HamsterWeekends$Reader" (88 : Nat) ({ cls := "HamsterWeekends$Room", name := "addHome", desc := "(II)V" } : Jvm.MethodName)) ∈ lw_all := lw_g (lw_at lw_m4 154 rfl) rfl
theorem q954 : (Jvm.Cond.methodLink "HamsterWeekends$Reader" (144 : Nat) ({ cls := "HamsterWeekends$Reader", name := "allergicOrAge", desc := "()V" } : Jvm.MethodName)) ∈ lw_all := lw_g (lw_at lw_m4 155 rfl) rfl
theorem q955 : (Jvm.Cond.privateMethod ({ cls := "HamsterWeekends$Reader", name := "allergicOrAge", desc := "()V" } : Jvm.MethodName)) ∈ lw_tbl := lw_at lw_m4 156 rfl
theorem q956 : (Jvm.Cond.instanceMethod ({ cls := "HamsterWeekends$Reader", name := "allergicOrAge", desc := "()V" } : Jvm.MethodName)) ∈ lw_all := lw_g (lw_at lw_m4 157 rfl) rfl
theorem q957 : (Jvm.Cond.code ({ cls := "HamsterWeekends$Reader", name := "allergicOrAge", desc := "()V" } : Jvm.MethodName) prog_14_method_12_code (1 : Nat) (Option.none : Option Jvm.ClassFile.FieldType)) ∈ lw_all := lw_g (lw_at lw_m4 158 rfl) rfl
theorem q958 : (Jvm.Cond.stringRef "HamsterWeekends$Reader" (92 : Nat) "llergic") ∈ lw_tbl := lw_at lw_m4 159 rfl
theorem q959 : (Jvm.Cond.methodLink "HamsterWeekends$Reader" (98 : Nat) ({ cls := "HamsterWeekends$Reader", name := "home", desc := "()I" } : Jvm.MethodName)) ∈ lw_all := lw_g (lw_at lw_m4 160 rfl) rfl
theorem q960 : (Jvm.Cond.privateMethod ({ cls := "HamsterWeekends$Reader", name := "home", desc := "()I" } : Jvm.MethodName)) ∈ lw_tbl := lw_at lw_m4 161 rfl
theorem q961 : (Jvm.Cond.instanceMethod ({ cls := "HamsterWeekends$Reader", name := "home", desc := "()I" } : Jvm.MethodName)) ∈ lw_all := lw_g (lw_at lw_m4 162 rfl) rfl
theorem q962 : (Jvm.Cond.code ({ cls := "HamsterWeekends$Reader", name := "home", desc := "()I" } : Jvm.MethodName) prog_14_method_10_code (1 : Nat) (Option.some Jvm.ClassFile.FieldType.int)) ∈ lw_all := lw_g (lw_at lw_m4 163 rfl) rfl
theorem q963 : (Jvm.Cond.stringRef "HamsterWeekends$Reader" (100 : Nat) "ge") ∈ lw_tbl := lw_at lw_m4 164 rfl
theorem q964 : (Jvm.Cond.methodLink "HamsterWeekends$Reader" (147 : Nat) ({ cls := "HamsterWeekends$Reader", name := "weightOrWeek", desc := "()V" } : Jvm.MethodName)) ∈ lw_all := lw_g (lw_at lw_m4 165 rfl) rfl
theorem q965 : (Jvm.Cond.privateMethod ({ cls := "HamsterWeekends$Reader", name := "weightOrWeek", desc := "()V" } : Jvm.MethodName)) ∈ lw_tbl := lw_at lw_m4 166 rfl
theorem q966 : (Jvm.Cond.instanceMethod ({ cls := "HamsterWeekends$Reader", name := "weightOrWeek", desc := "()V" } : Jvm.MethodName)) ∈ lw_all := lw_g (lw_at lw_m4 167 rfl) rfl
theorem q967 : (Jvm.Cond.code ({ cls := "HamsterWeekends$Reader", name := "weightOrWeek", desc := "()V" } : Jvm.MethodName) prog_14_method_13_code (2 : Nat) (Option.none : Option Jvm.ClassFile.FieldType)) ∈ lw_all := lw_g (lw_at lw_m4 168 rfl) rfl
theorem q968 : (Jvm.Cond.stringRef "HamsterWeekends$Reader" (111 : Nat) "we") ∈ lw_tbl := lw_at lw_m4 169 rfl
theorem q969 : (Jvm.Cond.stringRef "HamsterWeekends$Reader" (113 : Nat) "ight") ∈ lw_tbl := lw_at lw_m4 170 rfl
theorem q970 : (Jvm.Cond.stringRef "HamsterWeekends$Reader" (118 : Nat) "ek") ∈ lw_tbl := lw_at lw_m4 171 rfl
theorem q971 : (Jvm.Cond.methodLink "HamsterWeekends$Reader" (120 : Nat) ({ cls := "HamsterWeekends$Room", name := "may", desc := "(I)Z" } : Jvm.MethodName)) ∈ lw_all := lw_g (lw_at lw_m4 172 rfl) rfl
theorem q976 : (Jvm.Cond.methodLink "HamsterWeekends$Reader" (123 : Nat) ({ cls := "HamsterWeekends$Room", name := "week", desc := "(I)I" } : Jvm.MethodName)) ∈ lw_all := lw_g (lw_at lw_m4 177 rfl) rfl
theorem q1031 : (Jvm.Cond.methodLink "HamsterWeekends$Reader" (150 : Nat) ({ cls := "HamsterWeekends$Reader", name := "frightOrFeed", desc := "()V" } : Jvm.MethodName)) ∈ lw_all := lw_g (lw_at lw_m4 232 rfl) rfl
theorem q1032 : (Jvm.Cond.privateMethod ({ cls := "HamsterWeekends$Reader", name := "frightOrFeed", desc := "()V" } : Jvm.MethodName)) ∈ lw_tbl := lw_at lw_m4 233 rfl
theorem q1033 : (Jvm.Cond.instanceMethod ({ cls := "HamsterWeekends$Reader", name := "frightOrFeed", desc := "()V" } : Jvm.MethodName)) ∈ lw_all := lw_g (lw_at lw_m4 234 rfl) rfl
theorem q1034 : (Jvm.Cond.code ({ cls := "HamsterWeekends$Reader", name := "frightOrFeed", desc := "()V" } : Jvm.MethodName) prog_14_method_14_code (1 : Nat) (Option.none : Option Jvm.ClassFile.FieldType)) ∈ lw_all := lw_g (lw_at lw_m4 235 rfl) rfl
theorem q1035 : (Jvm.Cond.stringRef "HamsterWeekends$Reader" (126 : Nat) "right") ∈ lw_tbl := lw_at lw_m4 236 rfl
theorem q1036 : (Jvm.Cond.stringRef "HamsterWeekends$Reader" (131 : Nat) "eed") ∈ lw_tbl := lw_at lw_m4 237 rfl
theorem q1037 : (Jvm.Cond.methodLink "HamsterWeekends$Reader" (153 : Nat) ({ cls := "HamsterWeekends$Reader", name := "lifeOrLow", desc := "()V" } : Jvm.MethodName)) ∈ lw_all := lw_g (lw_at lw_m4 238 rfl) rfl
theorem q1038 : (Jvm.Cond.privateMethod ({ cls := "HamsterWeekends$Reader", name := "lifeOrLow", desc := "()V" } : Jvm.MethodName)) ∈ lw_tbl := lw_at lw_m4 239 rfl
theorem q1039 : (Jvm.Cond.instanceMethod ({ cls := "HamsterWeekends$Reader", name := "lifeOrLow", desc := "()V" } : Jvm.MethodName)) ∈ lw_all := lw_g (lw_at lw_m5 0 rfl) rfl
theorem q1040 : (Jvm.Cond.code ({ cls := "HamsterWeekends$Reader", name := "lifeOrLow", desc := "()V" } : Jvm.MethodName) prog_14_method_15_code (1 : Nat) (Option.none : Option Jvm.ClassFile.FieldType)) ∈ lw_all := lw_g (lw_at lw_m5 1 rfl) rfl
theorem q1041 : (Jvm.Cond.stringRef "HamsterWeekends$Reader" (137 : Nat) "ife") ∈ lw_tbl := lw_at lw_m5 2 rfl
theorem q1042 : (Jvm.Cond.stringRef "HamsterWeekends$Reader" (139 : Nat) "ow") ∈ lw_tbl := lw_at lw_m5 3 rfl
theorem q1043 : (Jvm.Cond.stringRef "HamsterWeekends$Reader" (156 : Nat) "marks") ∈ lw_tbl := lw_at lw_m5 4 rfl
theorem in_X19 : ∀ w ∈ wsX190, w ∈ lw_all := lw_in wsX190 [811, 813, 815, 817] (by decide +kernel) (by decide +kernel)

/-! HamsterWeekends$Pet -/
set_option maxRecDepth 100000
def RX2 : String := "HamsterWeekends$Pet"
def TX2 : u_T := fun k => match k with
  | 0 => ("HamsterWeekends$Pet", "weight", "I", false)
  | 1 => ("HamsterWeekends$Pet", "fright", "I", false)
  | 2 => ("HamsterWeekends$Pet", "age", "I", false)
  | _ => ("HamsterWeekends$Pet", "asked", "[I", true)
def tyX2 : Nat → FieldType := fun k => match k with
  | 0 => .int
  | 1 => .int
  | 2 => .int
  | _ => .array .int
abbrev wsX20 : List Cond := u_ws RX2 TX2 4
theorem nmX2 : ∀ a, a < 4 → ∀ b, b < 4 → a ≠ b → (TX2 a).2.1 ≠ (TX2 b).2.1 := by decide +kernel
theorem tyX2_ok : ∀ k, k < 4 → parseFieldDescriptor (TX2 k).2.2.1 = some (tyX2 k) := by decide +kernel
abbrev cX2_init : ByteArray := prog_13_method_1_code
def yX2_init : MethodName := ⟨RX2, "<init>", "()V"⟩
def dkwX2_init_1 : List UInt8 := [5, 16, 60, 79, 181, 0, 15, 177]
abbrev dktX2_init_1 : List UInt8 := dkwX2_init_1 ++ []
def dkwX2_init_0 : List UInt8 := [42, 183, 0, 3, 42, 16, 112, 181, 0, 9, 42, 6, 188, 10, 89, 3, 7, 79, 89, 4, 16, 100, 79, 89]
abbrev dktX2_init_0 : List UInt8 := dkwX2_init_0 ++ dktX2_init_1
theorem dksX2_init_0 : cX2_init.data.toList.drop 0 = dktX2_init_0 := by decide +kernel
theorem dksX2_init_1 : cX2_init.data.toList.drop 24 = dktX2_init_1 := dk_seg dksX2_init_0 24 rfl rfl
theorem dX2_init_0 : decode cX2_init 0 = .ok (.aload_n 0, 1) := dk_42 (dk_at dksX2_init_0 0 rfl rfl)
theorem dX2_init_1 : decode cX2_init 1 = .ok (.invokespecial 3, 3) := dk_183 0 3 (dk_at dksX2_init_0 1 rfl rfl)
theorem dX2_init_4 : decode cX2_init 4 = .ok (.aload_n 0, 1) := dk_42 (dk_at dksX2_init_0 4 rfl rfl)
theorem dX2_init_5 : decode cX2_init 5 = .ok (.bipush 112, 2) := dk_16 112 (dk_at dksX2_init_0 5 rfl rfl)
theorem dX2_init_7 : decode cX2_init 7 = .ok (.putfield 9, 3) := dk_181 0 9 (dk_at dksX2_init_0 7 rfl rfl)
theorem dX2_init_10 : decode cX2_init 10 = .ok (.aload_n 0, 1) := dk_42 (dk_at dksX2_init_0 10 rfl rfl)
theorem dX2_init_11 : decode cX2_init 11 = .ok (.iconst 3, 1) := dk_6 (dk_at dksX2_init_0 11 rfl rfl)
theorem dX2_init_12 : decode cX2_init 12 = .ok (.newarray .int, 2) := dk_188_10 (dk_at dksX2_init_0 12 rfl rfl)
theorem dX2_init_14 : decode cX2_init 14 = .ok (.dup, 1) := dk_89 (dk_at dksX2_init_0 14 rfl rfl)
theorem dX2_init_15 : decode cX2_init 15 = .ok (.iconst 0, 1) := dk_3 (dk_at dksX2_init_0 15 rfl rfl)
theorem dX2_init_16 : decode cX2_init 16 = .ok (.iconst 4, 1) := dk_7 (dk_at dksX2_init_0 16 rfl rfl)
theorem dX2_init_17 : decode cX2_init 17 = .ok (.iastore, 1) := dk_79 (dk_at dksX2_init_0 17 rfl rfl)
theorem dX2_init_18 : decode cX2_init 18 = .ok (.dup, 1) := dk_89 (dk_at dksX2_init_0 18 rfl rfl)
theorem dX2_init_19 : decode cX2_init 19 = .ok (.iconst 1, 1) := dk_4 (dk_at dksX2_init_0 19 rfl rfl)
theorem dX2_init_20 : decode cX2_init 20 = .ok (.bipush 100, 2) := dk_16 100 (dk_at dksX2_init_0 20 rfl rfl)
theorem dX2_init_22 : decode cX2_init 22 = .ok (.iastore, 1) := dk_79 (dk_at dksX2_init_0 22 rfl rfl)
theorem dX2_init_23 : decode cX2_init 23 = .ok (.dup, 1) := dk_89 (dk_at dksX2_init_0 23 rfl rfl)
theorem dX2_init_24 : decode cX2_init 24 = .ok (.iconst 2, 1) := dk_5 (dk_at dksX2_init_1 0 rfl rfl)
theorem dX2_init_25 : decode cX2_init 25 = .ok (.bipush 60, 2) := dk_16 60 (dk_at dksX2_init_1 1 rfl rfl)
theorem dX2_init_27 : decode cX2_init 27 = .ok (.iastore, 1) := dk_79 (dk_at dksX2_init_1 3 rfl rfl)
theorem dX2_init_28 : decode cX2_init 28 = .ok (.putfield 15, 3) := dk_181 0 15 (dk_at dksX2_init_1 4 rfl rfl)
theorem dX2_init_31 : decode cX2_init 31 = .ok (.return_, 1) := dk_177 (dk_at dksX2_init_1 7 rfl rfl)
abbrev cX2_take : ByteArray := prog_13_method_2_code
def yX2_take : MethodName := ⟨RX2, "take", "(LHamsterWeekends$Pet;)LHamsterWeekends$Pet;"⟩
def dkwX2_take_1 : List UInt8 := [43, 180, 0, 15, 3, 42, 180, 0, 15, 3, 6, 184, 0, 25, 42, 176]
abbrev dktX2_take_1 : List UInt8 := dkwX2_take_1 ++ []
def dkwX2_take_0 : List UInt8 := [42, 43, 180, 0, 9, 181, 0, 9, 42, 43, 180, 0, 19, 181, 0, 19, 42, 43, 180, 0, 22, 181, 0, 22]
abbrev dktX2_take_0 : List UInt8 := dkwX2_take_0 ++ dktX2_take_1
theorem dksX2_take_0 : cX2_take.data.toList.drop 0 = dktX2_take_0 := by decide +kernel
theorem dksX2_take_1 : cX2_take.data.toList.drop 24 = dktX2_take_1 := dk_seg dksX2_take_0 24 rfl rfl
theorem dX2_take_0 : decode cX2_take 0 = .ok (.aload_n 0, 1) := dk_42 (dk_at dksX2_take_0 0 rfl rfl)
theorem dX2_take_1 : decode cX2_take 1 = .ok (.aload_n 1, 1) := dk_43 (dk_at dksX2_take_0 1 rfl rfl)
theorem dX2_take_2 : decode cX2_take 2 = .ok (.getfield 9, 3) := dk_180 0 9 (dk_at dksX2_take_0 2 rfl rfl)
theorem dX2_take_5 : decode cX2_take 5 = .ok (.putfield 9, 3) := dk_181 0 9 (dk_at dksX2_take_0 5 rfl rfl)
theorem dX2_take_8 : decode cX2_take 8 = .ok (.aload_n 0, 1) := dk_42 (dk_at dksX2_take_0 8 rfl rfl)
theorem dX2_take_9 : decode cX2_take 9 = .ok (.aload_n 1, 1) := dk_43 (dk_at dksX2_take_0 9 rfl rfl)
theorem dX2_take_10 : decode cX2_take 10 = .ok (.getfield 19, 3) := dk_180 0 19 (dk_at dksX2_take_0 10 rfl rfl)
theorem dX2_take_13 : decode cX2_take 13 = .ok (.putfield 19, 3) := dk_181 0 19 (dk_at dksX2_take_0 13 rfl rfl)
theorem dX2_take_16 : decode cX2_take 16 = .ok (.aload_n 0, 1) := dk_42 (dk_at dksX2_take_0 16 rfl rfl)
theorem dX2_take_17 : decode cX2_take 17 = .ok (.aload_n 1, 1) := dk_43 (dk_at dksX2_take_0 17 rfl rfl)
theorem dX2_take_18 : decode cX2_take 18 = .ok (.getfield 22, 3) := dk_180 0 22 (dk_at dksX2_take_0 18 rfl rfl)
theorem dX2_take_21 : decode cX2_take 21 = .ok (.putfield 22, 3) := dk_181 0 22 (dk_at dksX2_take_0 21 rfl rfl)
theorem dX2_take_24 : decode cX2_take 24 = .ok (.aload_n 1, 1) := dk_43 (dk_at dksX2_take_1 0 rfl rfl)
theorem dX2_take_25 : decode cX2_take 25 = .ok (.getfield 15, 3) := dk_180 0 15 (dk_at dksX2_take_1 1 rfl rfl)
theorem dX2_take_28 : decode cX2_take 28 = .ok (.iconst 0, 1) := dk_3 (dk_at dksX2_take_1 4 rfl rfl)
theorem dX2_take_29 : decode cX2_take 29 = .ok (.aload_n 0, 1) := dk_42 (dk_at dksX2_take_1 5 rfl rfl)
theorem dX2_take_30 : decode cX2_take 30 = .ok (.getfield 15, 3) := dk_180 0 15 (dk_at dksX2_take_1 6 rfl rfl)
theorem dX2_take_33 : decode cX2_take 33 = .ok (.iconst 0, 1) := dk_3 (dk_at dksX2_take_1 9 rfl rfl)
theorem dX2_take_34 : decode cX2_take 34 = .ok (.iconst 3, 1) := dk_6 (dk_at dksX2_take_1 10 rfl rfl)
theorem dX2_take_35 : decode cX2_take 35 = .ok (.invokestatic 25, 3) := dk_184 0 25 (dk_at dksX2_take_1 11 rfl rfl)
theorem dX2_take_38 : decode cX2_take 38 = .ok (.aload_n 0, 1) := dk_42 (dk_at dksX2_take_1 14 rfl rfl)
theorem dX2_take_39 : decode cX2_take 39 = .ok (.areturn, 1) := dk_176 (dk_at dksX2_take_1 15 rfl rfl)
abbrev cX2_week : ByteArray := prog_13_method_5_code
def yX2_week : MethodName := ⟨RX2, "week", "(LHamsterWeekends$Home;)V"⟩
def dkwX2_week_2 : List UInt8 := [181, 0, 19, 42, 89, 180, 0, 22, 4, 96, 181, 0, 22, 43, 198, 0, 8, 43, 42, 182, 0, 44, 177]
abbrev dktX2_week_2 : List UInt8 := dkwX2_week_2 ++ []
def dkwX2_week_1 : List UInt8 := [180, 0, 15, 3, 46, 28, 184, 0, 31, 184, 0, 37, 96, 181, 0, 9, 42, 89, 180, 0, 19, 5, 108]
abbrev dktX2_week_1 : List UInt8 := dkwX2_week_1 ++ dktX2_week_2
def dkwX2_week_0 : List UInt8 := [42, 3, 182, 0, 40, 42, 180, 0, 9, 100, 61, 42, 89, 180, 0, 9, 42, 180, 0, 15, 3, 46, 116, 42]
abbrev dktX2_week_0 : List UInt8 := dkwX2_week_0 ++ dktX2_week_1
theorem dksX2_week_0 : cX2_week.data.toList.drop 0 = dktX2_week_0 := by decide +kernel
theorem dksX2_week_1 : cX2_week.data.toList.drop 24 = dktX2_week_1 := dk_seg dksX2_week_0 24 rfl rfl
theorem dksX2_week_2 : cX2_week.data.toList.drop 47 = dktX2_week_2 := dk_seg dksX2_week_1 23 rfl rfl
theorem dX2_week_0 : decode cX2_week 0 = .ok (.aload_n 0, 1) := dk_42 (dk_at dksX2_week_0 0 rfl rfl)
theorem dX2_week_1 : decode cX2_week 1 = .ok (.iconst 0, 1) := dk_3 (dk_at dksX2_week_0 1 rfl rfl)
theorem dX2_week_2 : decode cX2_week 2 = .ok (.invokevirtual 40, 3) := dk_182 0 40 (dk_at dksX2_week_0 2 rfl rfl)
theorem dX2_week_5 : decode cX2_week 5 = .ok (.aload_n 0, 1) := dk_42 (dk_at dksX2_week_0 5 rfl rfl)
theorem dX2_week_6 : decode cX2_week 6 = .ok (.getfield 9, 3) := dk_180 0 9 (dk_at dksX2_week_0 6 rfl rfl)
theorem dX2_week_9 : decode cX2_week 9 = .ok (.isub, 1) := dk_100 (dk_at dksX2_week_0 9 rfl rfl)
theorem dX2_week_10 : decode cX2_week 10 = .ok (.istore_n 2, 1) := dk_61 (dk_at dksX2_week_0 10 rfl rfl)
theorem dX2_week_11 : decode cX2_week 11 = .ok (.aload_n 0, 1) := dk_42 (dk_at dksX2_week_0 11 rfl rfl)
theorem dX2_week_12 : decode cX2_week 12 = .ok (.dup, 1) := dk_89 (dk_at dksX2_week_0 12 rfl rfl)
theorem dX2_week_13 : decode cX2_week 13 = .ok (.getfield 9, 3) := dk_180 0 9 (dk_at dksX2_week_0 13 rfl rfl)
theorem dX2_week_16 : decode cX2_week 16 = .ok (.aload_n 0, 1) := dk_42 (dk_at dksX2_week_0 16 rfl rfl)
theorem dX2_week_17 : decode cX2_week 17 = .ok (.getfield 15, 3) := dk_180 0 15 (dk_at dksX2_week_0 17 rfl rfl)
theorem dX2_week_20 : decode cX2_week 20 = .ok (.iconst 0, 1) := dk_3 (dk_at dksX2_week_0 20 rfl rfl)
theorem dX2_week_21 : decode cX2_week 21 = .ok (.iaload, 1) := dk_46 (dk_at dksX2_week_0 21 rfl rfl)
theorem dX2_week_22 : decode cX2_week 22 = .ok (.ineg, 1) := dk_116 (dk_at dksX2_week_0 22 rfl rfl)
theorem dX2_week_23 : decode cX2_week 23 = .ok (.aload_n 0, 1) := dk_42 (dk_at dksX2_week_0 23 rfl rfl)
theorem dX2_week_24 : decode cX2_week 24 = .ok (.getfield 15, 3) := dk_180 0 15 (dk_at dksX2_week_1 0 rfl rfl)
theorem dX2_week_27 : decode cX2_week 27 = .ok (.iconst 0, 1) := dk_3 (dk_at dksX2_week_1 3 rfl rfl)
theorem dX2_week_28 : decode cX2_week 28 = .ok (.iaload, 1) := dk_46 (dk_at dksX2_week_1 4 rfl rfl)
theorem dX2_week_29 : decode cX2_week 29 = .ok (.iload_n 2, 1) := dk_28 (dk_at dksX2_week_1 5 rfl rfl)
theorem dX2_week_30 : decode cX2_week 30 = .ok (.invokestatic 31, 3) := dk_184 0 31 (dk_at dksX2_week_1 6 rfl rfl)
theorem dX2_week_33 : decode cX2_week 33 = .ok (.invokestatic 37, 3) := dk_184 0 37 (dk_at dksX2_week_1 9 rfl rfl)
theorem dX2_week_36 : decode cX2_week 36 = .ok (.iadd, 1) := dk_96 (dk_at dksX2_week_1 12 rfl rfl)
theorem dX2_week_37 : decode cX2_week 37 = .ok (.putfield 9, 3) := dk_181 0 9 (dk_at dksX2_week_1 13 rfl rfl)
theorem dX2_week_40 : decode cX2_week 40 = .ok (.aload_n 0, 1) := dk_42 (dk_at dksX2_week_1 16 rfl rfl)
theorem dX2_week_41 : decode cX2_week 41 = .ok (.dup, 1) := dk_89 (dk_at dksX2_week_1 17 rfl rfl)
theorem dX2_week_42 : decode cX2_week 42 = .ok (.getfield 19, 3) := dk_180 0 19 (dk_at dksX2_week_1 18 rfl rfl)
theorem dX2_week_45 : decode cX2_week 45 = .ok (.iconst 2, 1) := dk_5 (dk_at dksX2_week_1 21 rfl rfl)
theorem dX2_week_46 : decode cX2_week 46 = .ok (.idiv, 1) := dk_108 (dk_at dksX2_week_1 22 rfl rfl)
theorem dX2_week_47 : decode cX2_week 47 = .ok (.putfield 19, 3) := dk_181 0 19 (dk_at dksX2_week_2 0 rfl rfl)
theorem dX2_week_50 : decode cX2_week 50 = .ok (.aload_n 0, 1) := dk_42 (dk_at dksX2_week_2 3 rfl rfl)
theorem dX2_week_51 : decode cX2_week 51 = .ok (.dup, 1) := dk_89 (dk_at dksX2_week_2 4 rfl rfl)
theorem dX2_week_52 : decode cX2_week 52 = .ok (.getfield 22, 3) := dk_180 0 22 (dk_at dksX2_week_2 5 rfl rfl)
theorem dX2_week_55 : decode cX2_week 55 = .ok (.iconst 1, 1) := dk_4 (dk_at dksX2_week_2 8 rfl rfl)
theorem dX2_week_56 : decode cX2_week 56 = .ok (.iadd, 1) := dk_96 (dk_at dksX2_week_2 9 rfl rfl)
theorem dX2_week_57 : decode cX2_week 57 = .ok (.putfield 22, 3) := dk_181 0 22 (dk_at dksX2_week_2 10 rfl rfl)
theorem dX2_week_60 : decode cX2_week 60 = .ok (.aload_n 1, 1) := dk_43 (dk_at dksX2_week_2 13 rfl rfl)
theorem dX2_week_61 : decode cX2_week 61 = .ok (.ifnull 8, 3) := dk_198 0 8 (dk_at dksX2_week_2 14 rfl rfl)
theorem dX2_week_64 : decode cX2_week 64 = .ok (.aload_n 1, 1) := dk_43 (dk_at dksX2_week_2 17 rfl rfl)
theorem dX2_week_65 : decode cX2_week 65 = .ok (.aload_n 0, 1) := dk_42 (dk_at dksX2_week_2 18 rfl rfl)
theorem dX2_week_66 : decode cX2_week 66 = .ok (.invokevirtual 44, 3) := dk_182 0 44 (dk_at dksX2_week_2 19 rfl rfl)
theorem dX2_week_69 : decode cX2_week 69 = .ok (.return_, 1) := dk_177 (dk_at dksX2_week_2 22 rfl rfl)
abbrev cX2_norm : ByteArray := prog_13_method_4_code
def yX2_norm : MethodName := ⟨RX2, "norm", "(I)I"⟩
def dkwX2_norm_1 : List UInt8 := [158, 0, 15, 3, 28, 29, 5, 108, 100, 184, 0, 37, 167, 0, 4, 28, 172]
abbrev dktX2_norm_1 : List UInt8 := dkwX2_norm_1 ++ []
def dkwX2_norm_0 : List UInt8 := [16, 100, 8, 42, 180, 0, 15, 3, 46, 104, 96, 61, 42, 180, 0, 22, 27, 96, 16, 51, 100, 62, 29]
abbrev dktX2_norm_0 : List UInt8 := dkwX2_norm_0 ++ dktX2_norm_1
theorem dksX2_norm_0 : cX2_norm.data.toList.drop 0 = dktX2_norm_0 := by decide +kernel
theorem dksX2_norm_1 : cX2_norm.data.toList.drop 23 = dktX2_norm_1 := dk_seg dksX2_norm_0 23 rfl rfl
theorem dX2_norm_0 : decode cX2_norm 0 = .ok (.bipush 100, 2) := dk_16 100 (dk_at dksX2_norm_0 0 rfl rfl)
theorem dX2_norm_2 : decode cX2_norm 2 = .ok (.iconst 5, 1) := dk_8 (dk_at dksX2_norm_0 2 rfl rfl)
theorem dX2_norm_3 : decode cX2_norm 3 = .ok (.aload_n 0, 1) := dk_42 (dk_at dksX2_norm_0 3 rfl rfl)
theorem dX2_norm_4 : decode cX2_norm 4 = .ok (.getfield 15, 3) := dk_180 0 15 (dk_at dksX2_norm_0 4 rfl rfl)
theorem dX2_norm_7 : decode cX2_norm 7 = .ok (.iconst 0, 1) := dk_3 (dk_at dksX2_norm_0 7 rfl rfl)
theorem dX2_norm_8 : decode cX2_norm 8 = .ok (.iaload, 1) := dk_46 (dk_at dksX2_norm_0 8 rfl rfl)
theorem dX2_norm_9 : decode cX2_norm 9 = .ok (.imul, 1) := dk_104 (dk_at dksX2_norm_0 9 rfl rfl)
theorem dX2_norm_10 : decode cX2_norm 10 = .ok (.iadd, 1) := dk_96 (dk_at dksX2_norm_0 10 rfl rfl)
theorem dX2_norm_11 : decode cX2_norm 11 = .ok (.istore_n 2, 1) := dk_61 (dk_at dksX2_norm_0 11 rfl rfl)
theorem dX2_norm_12 : decode cX2_norm 12 = .ok (.aload_n 0, 1) := dk_42 (dk_at dksX2_norm_0 12 rfl rfl)
theorem dX2_norm_13 : decode cX2_norm 13 = .ok (.getfield 22, 3) := dk_180 0 22 (dk_at dksX2_norm_0 13 rfl rfl)
theorem dX2_norm_16 : decode cX2_norm 16 = .ok (.iload_n 1, 1) := dk_27 (dk_at dksX2_norm_0 16 rfl rfl)
theorem dX2_norm_17 : decode cX2_norm 17 = .ok (.iadd, 1) := dk_96 (dk_at dksX2_norm_0 17 rfl rfl)
theorem dX2_norm_18 : decode cX2_norm 18 = .ok (.bipush 51, 2) := dk_16 51 (dk_at dksX2_norm_0 18 rfl rfl)
theorem dX2_norm_20 : decode cX2_norm 20 = .ok (.isub, 1) := dk_100 (dk_at dksX2_norm_0 20 rfl rfl)
theorem dX2_norm_21 : decode cX2_norm 21 = .ok (.istore_n 3, 1) := dk_62 (dk_at dksX2_norm_0 21 rfl rfl)
theorem dX2_norm_22 : decode cX2_norm 22 = .ok (.iload_n 3, 1) := dk_29 (dk_at dksX2_norm_0 22 rfl rfl)
theorem dX2_norm_23 : decode cX2_norm 23 = .ok (.ifCond .le 15, 3) := dk_158 0 15 (dk_at dksX2_norm_1 0 rfl rfl)
theorem dX2_norm_26 : decode cX2_norm 26 = .ok (.iconst 0, 1) := dk_3 (dk_at dksX2_norm_1 3 rfl rfl)
theorem dX2_norm_27 : decode cX2_norm 27 = .ok (.iload_n 2, 1) := dk_28 (dk_at dksX2_norm_1 4 rfl rfl)
theorem dX2_norm_28 : decode cX2_norm 28 = .ok (.iload_n 3, 1) := dk_29 (dk_at dksX2_norm_1 5 rfl rfl)
theorem dX2_norm_29 : decode cX2_norm 29 = .ok (.iconst 2, 1) := dk_5 (dk_at dksX2_norm_1 6 rfl rfl)
theorem dX2_norm_30 : decode cX2_norm 30 = .ok (.idiv, 1) := dk_108 (dk_at dksX2_norm_1 7 rfl rfl)
theorem dX2_norm_31 : decode cX2_norm 31 = .ok (.isub, 1) := dk_100 (dk_at dksX2_norm_1 8 rfl rfl)
theorem dX2_norm_32 : decode cX2_norm 32 = .ok (.invokestatic 37, 3) := dk_184 0 37 (dk_at dksX2_norm_1 9 rfl rfl)
theorem dX2_norm_35 : decode cX2_norm 35 = .ok (.goto 4, 3) := dk_167 0 4 (dk_at dksX2_norm_1 12 rfl rfl)
theorem dX2_norm_38 : decode cX2_norm 38 = .ok (.iload_n 2, 1) := dk_28 (dk_at dksX2_norm_1 15 rfl rfl)
theorem dX2_norm_39 : decode cX2_norm 39 = .ok (.ireturn, 1) := dk_172 (dk_at dksX2_norm_1 16 rfl rfl)
abbrev cX2_gains : ByteArray := prog_13_method_3_code
def yX2_gains : MethodName := ⟨RX2, "gains", "(I)V"⟩
def dkwX2_gains_0 : List UInt8 := [42, 3, 17, 1, 144, 42, 180, 0, 9, 27, 96, 184, 0, 31, 184, 0, 37, 181, 0, 9, 177]
abbrev dktX2_gains_0 : List UInt8 := dkwX2_gains_0 ++ []
theorem dksX2_gains_0 : cX2_gains.data.toList.drop 0 = dktX2_gains_0 := by decide +kernel
theorem dX2_gains_0 : decode cX2_gains 0 = .ok (.aload_n 0, 1) := dk_42 (dk_at dksX2_gains_0 0 rfl rfl)
theorem dX2_gains_1 : decode cX2_gains 1 = .ok (.iconst 0, 1) := dk_3 (dk_at dksX2_gains_0 1 rfl rfl)
theorem dX2_gains_2 : decode cX2_gains 2 = .ok (.sipush 400, 3) := dk_17 1 144 (dk_at dksX2_gains_0 2 rfl rfl)
theorem dX2_gains_5 : decode cX2_gains 5 = .ok (.aload_n 0, 1) := dk_42 (dk_at dksX2_gains_0 5 rfl rfl)
theorem dX2_gains_6 : decode cX2_gains 6 = .ok (.getfield 9, 3) := dk_180 0 9 (dk_at dksX2_gains_0 6 rfl rfl)
theorem dX2_gains_9 : decode cX2_gains 9 = .ok (.iload_n 1, 1) := dk_27 (dk_at dksX2_gains_0 9 rfl rfl)
theorem dX2_gains_10 : decode cX2_gains 10 = .ok (.iadd, 1) := dk_96 (dk_at dksX2_gains_0 10 rfl rfl)
theorem dX2_gains_11 : decode cX2_gains 11 = .ok (.invokestatic 31, 3) := dk_184 0 31 (dk_at dksX2_gains_0 11 rfl rfl)
theorem dX2_gains_14 : decode cX2_gains 14 = .ok (.invokestatic 37, 3) := dk_184 0 37 (dk_at dksX2_gains_0 14 rfl rfl)
theorem dX2_gains_17 : decode cX2_gains 17 = .ok (.putfield 9, 3) := dk_181 0 9 (dk_at dksX2_gains_0 17 rfl rfl)
theorem dX2_gains_20 : decode cX2_gains 20 = .ok (.return_, 1) := dk_177 (dk_at dksX2_gains_0 20 rfl rfl)
abbrev cX2_dies : ByteArray := prog_13_method_6_code
def yX2_dies : MethodName := ⟨RX2, "dies", "()I"⟩
def dkwX2_dies_2 : List UInt8 := [2, 172]
abbrev dktX2_dies_2 : List UInt8 := dkwX2_dies_2 ++ []
def dkwX2_dies_1 : List UInt8 := [164, 0, 7, 4, 167, 0, 21, 42, 180, 0, 22, 42, 180, 0, 15, 4, 46, 164, 0, 7, 5, 167, 0, 4]
abbrev dktX2_dies_1 : List UInt8 := dkwX2_dies_1 ++ dktX2_dies_2
def dkwX2_dies_0 : List UInt8 := [42, 180, 0, 9, 42, 180, 0, 15, 5, 46, 162, 0, 7, 3, 167, 0, 34, 42, 180, 0, 19, 16, 60]
abbrev dktX2_dies_0 : List UInt8 := dkwX2_dies_0 ++ dktX2_dies_1
theorem dksX2_dies_0 : cX2_dies.data.toList.drop 0 = dktX2_dies_0 := by decide +kernel
theorem dksX2_dies_1 : cX2_dies.data.toList.drop 23 = dktX2_dies_1 := dk_seg dksX2_dies_0 23 rfl rfl
theorem dksX2_dies_2 : cX2_dies.data.toList.drop 47 = dktX2_dies_2 := dk_seg dksX2_dies_1 24 rfl rfl
theorem dX2_dies_0 : decode cX2_dies 0 = .ok (.aload_n 0, 1) := dk_42 (dk_at dksX2_dies_0 0 rfl rfl)
theorem dX2_dies_1 : decode cX2_dies 1 = .ok (.getfield 9, 3) := dk_180 0 9 (dk_at dksX2_dies_0 1 rfl rfl)
theorem dX2_dies_4 : decode cX2_dies 4 = .ok (.aload_n 0, 1) := dk_42 (dk_at dksX2_dies_0 4 rfl rfl)
theorem dX2_dies_5 : decode cX2_dies 5 = .ok (.getfield 15, 3) := dk_180 0 15 (dk_at dksX2_dies_0 5 rfl rfl)
theorem dX2_dies_8 : decode cX2_dies 8 = .ok (.iconst 2, 1) := dk_5 (dk_at dksX2_dies_0 8 rfl rfl)
theorem dX2_dies_9 : decode cX2_dies 9 = .ok (.iaload, 1) := dk_46 (dk_at dksX2_dies_0 9 rfl rfl)
theorem dX2_dies_10 : decode cX2_dies 10 = .ok (.if_icmp .ge 7, 3) := dk_162 0 7 (dk_at dksX2_dies_0 10 rfl rfl)
theorem dX2_dies_13 : decode cX2_dies 13 = .ok (.iconst 0, 1) := dk_3 (dk_at dksX2_dies_0 13 rfl rfl)
theorem dX2_dies_14 : decode cX2_dies 14 = .ok (.goto 34, 3) := dk_167 0 34 (dk_at dksX2_dies_0 14 rfl rfl)
theorem dX2_dies_17 : decode cX2_dies 17 = .ok (.aload_n 0, 1) := dk_42 (dk_at dksX2_dies_0 17 rfl rfl)
theorem dX2_dies_18 : decode cX2_dies 18 = .ok (.getfield 19, 3) := dk_180 0 19 (dk_at dksX2_dies_0 18 rfl rfl)
theorem dX2_dies_21 : decode cX2_dies 21 = .ok (.bipush 60, 2) := dk_16 60 (dk_at dksX2_dies_0 21 rfl rfl)
theorem dX2_dies_23 : decode cX2_dies 23 = .ok (.if_icmp .le 7, 3) := dk_164 0 7 (dk_at dksX2_dies_1 0 rfl rfl)
theorem dX2_dies_26 : decode cX2_dies 26 = .ok (.iconst 1, 1) := dk_4 (dk_at dksX2_dies_1 3 rfl rfl)
theorem dX2_dies_27 : decode cX2_dies 27 = .ok (.goto 21, 3) := dk_167 0 21 (dk_at dksX2_dies_1 4 rfl rfl)
theorem dX2_dies_30 : decode cX2_dies 30 = .ok (.aload_n 0, 1) := dk_42 (dk_at dksX2_dies_1 7 rfl rfl)
theorem dX2_dies_31 : decode cX2_dies 31 = .ok (.getfield 22, 3) := dk_180 0 22 (dk_at dksX2_dies_1 8 rfl rfl)
theorem dX2_dies_34 : decode cX2_dies 34 = .ok (.aload_n 0, 1) := dk_42 (dk_at dksX2_dies_1 11 rfl rfl)
theorem dX2_dies_35 : decode cX2_dies 35 = .ok (.getfield 15, 3) := dk_180 0 15 (dk_at dksX2_dies_1 12 rfl rfl)
theorem dX2_dies_38 : decode cX2_dies 38 = .ok (.iconst 1, 1) := dk_4 (dk_at dksX2_dies_1 15 rfl rfl)
theorem dX2_dies_39 : decode cX2_dies 39 = .ok (.iaload, 1) := dk_46 (dk_at dksX2_dies_1 16 rfl rfl)
theorem dX2_dies_40 : decode cX2_dies 40 = .ok (.if_icmp .le 7, 3) := dk_164 0 7 (dk_at dksX2_dies_1 17 rfl rfl)
theorem dX2_dies_43 : decode cX2_dies 43 = .ok (.iconst 2, 1) := dk_5 (dk_at dksX2_dies_1 20 rfl rfl)
theorem dX2_dies_44 : decode cX2_dies 44 = .ok (.goto 4, 3) := dk_167 0 4 (dk_at dksX2_dies_1 21 rfl rfl)
theorem dX2_dies_47 : decode cX2_dies 47 = .ok (.iconst (-1), 1) := dk_2 (dk_at dksX2_dies_2 0 rfl rfl)
theorem dX2_dies_48 : decode cX2_dies 48 = .ok (.ireturn, 1) := dk_172 (dk_at dksX2_dies_2 1 rfl rfl)
abbrev cX2_replaced : ByteArray := prog_13_method_7_code
def yX2_replaced : MethodName := ⟨RX2, "replaced", "()V"⟩
def dkwX2_replaced_0 : List UInt8 := [42, 16, 80, 181, 0, 9, 42, 3, 181, 0, 19, 42, 3, 181, 0, 22, 177]
abbrev dktX2_replaced_0 : List UInt8 := dkwX2_replaced_0 ++ []
theorem dksX2_replaced_0 : cX2_replaced.data.toList.drop 0 = dktX2_replaced_0 := by decide +kernel
theorem dX2_replaced_0 : decode cX2_replaced 0 = .ok (.aload_n 0, 1) := dk_42 (dk_at dksX2_replaced_0 0 rfl rfl)
theorem dX2_replaced_1 : decode cX2_replaced 1 = .ok (.bipush 80, 2) := dk_16 80 (dk_at dksX2_replaced_0 1 rfl rfl)
theorem dX2_replaced_3 : decode cX2_replaced 3 = .ok (.putfield 9, 3) := dk_181 0 9 (dk_at dksX2_replaced_0 3 rfl rfl)
theorem dX2_replaced_6 : decode cX2_replaced 6 = .ok (.aload_n 0, 1) := dk_42 (dk_at dksX2_replaced_0 6 rfl rfl)
theorem dX2_replaced_7 : decode cX2_replaced 7 = .ok (.iconst 0, 1) := dk_3 (dk_at dksX2_replaced_0 7 rfl rfl)
theorem dX2_replaced_8 : decode cX2_replaced 8 = .ok (.putfield 19, 3) := dk_181 0 19 (dk_at dksX2_replaced_0 8 rfl rfl)
theorem dX2_replaced_11 : decode cX2_replaced 11 = .ok (.aload_n 0, 1) := dk_42 (dk_at dksX2_replaced_0 11 rfl rfl)
theorem dX2_replaced_12 : decode cX2_replaced 12 = .ok (.iconst 0, 1) := dk_3 (dk_at dksX2_replaced_0 12 rfl rfl)
theorem dX2_replaced_13 : decode cX2_replaced 13 = .ok (.putfield 22, 3) := dk_181 0 22 (dk_at dksX2_replaced_0 13 rfl rfl)
theorem dX2_replaced_16 : decode cX2_replaced 16 = .ok (.return_, 1) := dk_177 (dk_at dksX2_replaced_0 16 rfl rfl)
theorem q82 : (Jvm.Cond.initialized "HamsterWeekends$Pet") ∈ lw_all := lw_g (lw_at lw_m1 3 rfl) rfl
theorem q142 : (Jvm.Cond.instantiable "HamsterWeekends$Pet" (4 : Nat)) ∈ lw_all := lw_g (lw_at lw_m1 63 rfl) rfl
theorem q144 : (Jvm.Cond.instanceMethod ({ cls := "HamsterWeekends$Pet", name := "<init>", desc := "()V" } : Jvm.MethodName)) ∈ lw_all := lw_g (lw_at lw_m1 65 rfl) rfl
theorem q145 : (Jvm.Cond.code ({ cls := "HamsterWeekends$Pet", name := "<init>", desc := "()V" } : Jvm.MethodName) prog_13_method_1_code (1 : Nat) (Option.none : Option Jvm.ClassFile.FieldType)) ∈ lw_all := lw_g (lw_at lw_m1 66 rfl) rfl
theorem q146 : (Jvm.Cond.methodLink "HamsterWeekends$Pet" (3 : Nat) ({ cls := "java/lang/Object", name := "<init>", desc := "()V" } : Jvm.MethodName)) ∈ lw_all := lw_g (lw_at lw_m1 67 rfl) rfl
theorem q147 : (Jvm.Cond.fieldLink "HamsterWeekends$Pet" (9 : Nat) "HamsterWeekends$Pet" "weight" "I") ∈ lw_all := lw_g (lw_at lw_m1 68 rfl) rfl
theorem q150 : (Jvm.Cond.fieldLink "HamsterWeekends$Pet" (19 : Nat) "HamsterWeekends$Pet" "fright" "I") ∈ lw_all := lw_g (lw_at lw_m1 71 rfl) rfl
theorem q155 : (Jvm.Cond.fieldLink "HamsterWeekends$Pet" (22 : Nat) "HamsterWeekends$Pet" "age" "I") ∈ lw_all := lw_g (lw_at lw_m1 76 rfl) rfl
theorem q158 : (Jvm.Cond.fieldLink "HamsterWeekends$Pet" (15 : Nat) "HamsterWeekends$Pet" "asked" "[I") ∈ lw_all := lw_g (lw_at lw_m1 79 rfl) rfl
theorem q161 : (Jvm.Cond.lays "HamsterWeekends$Pet" "HamsterWeekends$Pet" "weight" "I") ∈ lw_all := lw_g (lw_at lw_m1 82 rfl) rfl
theorem q162 : (Jvm.Cond.soleField "HamsterWeekends$Pet" "weight") ∈ lw_all := lw_g (lw_at lw_m1 83 rfl) rfl
theorem q163 : (Jvm.Cond.lays "HamsterWeekends$Pet" "HamsterWeekends$Pet" "fright" "I") ∈ lw_all := lw_g (lw_at lw_m1 84 rfl) rfl
theorem q164 : (Jvm.Cond.soleField "HamsterWeekends$Pet" "fright") ∈ lw_all := lw_g (lw_at lw_m1 85 rfl) rfl
theorem q165 : (Jvm.Cond.lays "HamsterWeekends$Pet" "HamsterWeekends$Pet" "age" "I") ∈ lw_all := lw_g (lw_at lw_m1 86 rfl) rfl
theorem q166 : (Jvm.Cond.soleField "HamsterWeekends$Pet" "age") ∈ lw_all := lw_g (lw_at lw_m1 87 rfl) rfl
theorem q167 : (Jvm.Cond.laysFinal "HamsterWeekends$Pet" "HamsterWeekends$Pet" "asked" "[I") ∈ lw_all := lw_g (lw_at lw_m1 88 rfl) rfl
theorem q168 : (Jvm.Cond.soleField "HamsterWeekends$Pet" "asked") ∈ lw_all := lw_g (lw_at lw_m1 89 rfl) rfl
theorem q169 : (Jvm.Cond.superclass "HamsterWeekends$Pet" "java/lang/Object") ∈ lw_all := lw_g (lw_at lw_m1 90 rfl) rfl
theorem q796 : (Jvm.Cond.instanceMethod ({ cls := "HamsterWeekends$Pet", name := "take", desc := "(LHamsterWeekends$Pet;)LHamsterWeekends$Pet;" } : Jvm.MethodName)) ∈ lw_all := lw_g (lw_at lw_m3 237 rfl) rfl
theorem q797 : (Jvm.Cond.selects "HamsterWeekends$Pet" ({ cls := "HamsterWeekends$Pet", name := "take", desc := "(LHamsterWeekends$Pet;)LHamsterWeekends$Pet;" } : Jvm.MethodName) ({ cls := "HamsterWeekends$Pet", name := "take", desc := "(LHamsterWeekends$Pet;)LHamsterWeekends$Pet;" } : Jvm.MethodName)) ∈ lw_all := lw_g (lw_at lw_m3 238 rfl) rfl
theorem q798 : (Jvm.Cond.code ({ cls := "HamsterWeekends$Pet", name := "take", desc := "(LHamsterWeekends$Pet;)LHamsterWeekends$Pet;" } : Jvm.MethodName) prog_13_method_2_code (2 : Nat) (Option.some (Jvm.ClassFile.FieldType.object "HamsterWeekends$Pet"))) ∈ lw_all := lw_g (lw_at lw_m3 239 rfl) rfl
theorem q799 : (Jvm.Cond.methodLink "HamsterWeekends$Pet" (25 : Nat) ({ cls := "java/lang/System", name := "arraycopy", desc := "(Ljava/lang/Object;ILjava/lang/Object;II)V" } : Jvm.MethodName)) ∈ lw_all := lw_g (lw_at lw_m4 0 rfl) rfl
theorem q985 : (Jvm.Cond.instanceMethod ({ cls := "HamsterWeekends$Pet", name := "week", desc := "(LHamsterWeekends$Home;)V" } : Jvm.MethodName)) ∈ lw_all := lw_g (lw_at lw_m4 186 rfl) rfl
theorem q986 : (Jvm.Cond.selects "HamsterWeekends$Pet" ({ cls := "HamsterWeekends$Pet", name := "week", desc := "(LHamsterWeekends$Home;)V" } : Jvm.MethodName) ({ cls := "HamsterWeekends$Pet", name := "week", desc := "(LHamsterWeekends$Home;)V" } : Jvm.MethodName)) ∈ lw_all := lw_g (lw_at lw_m4 187 rfl) rfl
theorem q987 : (Jvm.Cond.code ({ cls := "HamsterWeekends$Pet", name := "week", desc := "(LHamsterWeekends$Home;)V" } : Jvm.MethodName) prog_13_method_5_code (3 : Nat) (Option.none : Option Jvm.ClassFile.FieldType)) ∈ lw_all := lw_g (lw_at lw_m4 188 rfl) rfl
theorem q988 : (Jvm.Cond.methodLink "HamsterWeekends$Pet" (40 : Nat) ({ cls := "HamsterWeekends$Pet", name := "norm", desc := "(I)I" } : Jvm.MethodName)) ∈ lw_all := lw_g (lw_at lw_m4 189 rfl) rfl
theorem q989 : (Jvm.Cond.instanceMethod ({ cls := "HamsterWeekends$Pet", name := "norm", desc := "(I)I" } : Jvm.MethodName)) ∈ lw_all := lw_g (lw_at lw_m4 190 rfl) rfl
theorem q990 : (Jvm.Cond.selects "HamsterWeekends$Pet" ({ cls := "HamsterWeekends$Pet", name := "norm", desc := "(I)I" } : Jvm.MethodName) ({ cls := "HamsterWeekends$Pet", name := "norm", desc := "(I)I" } : Jvm.MethodName)) ∈ lw_all := lw_g (lw_at lw_m4 191 rfl) rfl
theorem q991 : (Jvm.Cond.code ({ cls := "HamsterWeekends$Pet", name := "norm", desc := "(I)I" } : Jvm.MethodName) prog_13_method_4_code (4 : Nat) (Option.some Jvm.ClassFile.FieldType.int)) ∈ lw_all := lw_g (lw_at lw_m4 192 rfl) rfl
theorem q992 : (Jvm.Cond.methodLink "HamsterWeekends$Pet" (37 : Nat) ({ cls := "java/lang/Math", name := "max", desc := "(II)I" } : Jvm.MethodName)) ∈ lw_all := lw_g (lw_at lw_m4 193 rfl) rfl
theorem q995 : (Jvm.Cond.methodLink "HamsterWeekends$Pet" (31 : Nat) ({ cls := "java/lang/Math", name := "min", desc := "(II)I" } : Jvm.MethodName)) ∈ lw_all := lw_g (lw_at lw_m4 196 rfl) rfl
theorem q996 : (Jvm.Cond.methodLink "HamsterWeekends$Pet" (44 : Nat) ({ cls := "HamsterWeekends$Home", name := "weekend", desc := "(LHamsterWeekends$Pet;)V" } : Jvm.MethodName)) ∈ lw_all := lw_g (lw_at lw_m4 197 rfl) rfl
theorem q1005 : (Jvm.Cond.instanceMethod ({ cls := "HamsterWeekends$Pet", name := "gains", desc := "(I)V" } : Jvm.MethodName)) ∈ lw_all := lw_g (lw_at lw_m4 206 rfl) rfl
theorem q1006 : (Jvm.Cond.selects "HamsterWeekends$Pet" ({ cls := "HamsterWeekends$Pet", name := "gains", desc := "(I)V" } : Jvm.MethodName) ({ cls := "HamsterWeekends$Pet", name := "gains", desc := "(I)V" } : Jvm.MethodName)) ∈ lw_all := lw_g (lw_at lw_m4 207 rfl) rfl
theorem q1007 : (Jvm.Cond.code ({ cls := "HamsterWeekends$Pet", name := "gains", desc := "(I)V" } : Jvm.MethodName) prog_13_method_3_code (2 : Nat) (Option.none : Option Jvm.ClassFile.FieldType)) ∈ lw_all := lw_g (lw_at lw_m4 208 rfl) rfl
theorem q1024 : (Jvm.Cond.instanceMethod ({ cls := "HamsterWeekends$Pet", name := "dies", desc := "()I" } : Jvm.MethodName)) ∈ lw_all := lw_g (lw_at lw_m4 225 rfl) rfl
theorem q1025 : (Jvm.Cond.selects "HamsterWeekends$Pet" ({ cls := "HamsterWeekends$Pet", name := "dies", desc := "()I" } : Jvm.MethodName) ({ cls := "HamsterWeekends$Pet", name := "dies", desc := "()I" } : Jvm.MethodName)) ∈ lw_all := lw_g (lw_at lw_m4 226 rfl) rfl
theorem q1026 : (Jvm.Cond.code ({ cls := "HamsterWeekends$Pet", name := "dies", desc := "()I" } : Jvm.MethodName) prog_13_method_6_code (1 : Nat) (Option.some Jvm.ClassFile.FieldType.int)) ∈ lw_all := lw_g (lw_at lw_m4 227 rfl) rfl
theorem q1028 : (Jvm.Cond.instanceMethod ({ cls := "HamsterWeekends$Pet", name := "replaced", desc := "()V" } : Jvm.MethodName)) ∈ lw_all := lw_g (lw_at lw_m4 229 rfl) rfl
theorem q1029 : (Jvm.Cond.selects "HamsterWeekends$Pet" ({ cls := "HamsterWeekends$Pet", name := "replaced", desc := "()V" } : Jvm.MethodName) ({ cls := "HamsterWeekends$Pet", name := "replaced", desc := "()V" } : Jvm.MethodName)) ∈ lw_all := lw_g (lw_at lw_m4 230 rfl) rfl
theorem q1030 : (Jvm.Cond.code ({ cls := "HamsterWeekends$Pet", name := "replaced", desc := "()V" } : Jvm.MethodName) prog_13_method_7_code (1 : Nat) (Option.none : Option Jvm.ClassFile.FieldType)) ∈ lw_all := lw_g (lw_at lw_m4 231 rfl) rfl
theorem in_X2 : ∀ w ∈ wsX20, w ∈ lw_all := lw_in wsX20 [161, 163, 165, 167] (by decide +kernel) (by decide +kernel)

/-! HamsterWeekends$Faulty -/
set_option maxRecDepth 100000
def RX20 : String := "HamsterWeekends$Faulty"
def TX20 : u_T := fun k => match k with
  | 0 => ("java/lang/Throwable", "cause", "Ljava/lang/Throwable;", false)
  | 1 => ("java/lang/Throwable", "stackTrace", "[Ljava/lang/StackTraceElement;", false)
  | 2 => ("java/lang/Throwable", "suppressedExceptions", "Ljava/util/List;", false)
  | 3 => ("java/lang/Throwable", "detailMessage", "Ljava/lang/String;", false)
  | 4 => ("java/lang/Throwable", "backtrace", "Ljava/lang/Object;", false)
  | 5 => ("java/lang/Throwable", "depth", "I", false)
  | _ => ("HamsterWeekends$Faulty", "place", "I", true)
def tyX20 : Nat → FieldType := fun k => match k with
  | 0 => .object "java/lang/Throwable"
  | 1 => .array (.object "java/lang/StackTraceElement")
  | 2 => .object "java/util/List"
  | 3 => .object "java/lang/String"
  | 4 => .object "java/lang/Object"
  | 5 => .int
  | _ => .int
abbrev wsX200 : List Cond := u_ws RX20 TX20 7
theorem nmX20 : ∀ a, a < 7 → ∀ b, b < 7 → a ≠ b → (TX20 a).2.1 ≠ (TX20 b).2.1 := by decide +kernel
theorem tyX20_ok : ∀ k, k < 7 → parseFieldDescriptor (TX20 k).2.2.1 = some (tyX20 k) := by decide +kernel
abbrev cX20_init : ByteArray := prog_7_method_1_code
def yX20_init : MethodName := ⟨RX20, "<init>", "(I)V"⟩
def dkwX20_init_0 : List UInt8 := [42, 1, 1, 3, 3, 183, 0, 1, 42, 27, 181, 0, 7, 177]
abbrev dktX20_init_0 : List UInt8 := dkwX20_init_0 ++ []
theorem dksX20_init_0 : cX20_init.data.toList.drop 0 = dktX20_init_0 := by decide +kernel
theorem dX20_init_0 : decode cX20_init 0 = .ok (.aload_n 0, 1) := dk_42 (dk_at dksX20_init_0 0 rfl rfl)
theorem dX20_init_1 : decode cX20_init 1 = .ok (.aconst_null, 1) := dk_1 (dk_at dksX20_init_0 1 rfl rfl)
theorem dX20_init_2 : decode cX20_init 2 = .ok (.aconst_null, 1) := dk_1 (dk_at dksX20_init_0 2 rfl rfl)
theorem dX20_init_3 : decode cX20_init 3 = .ok (.iconst 0, 1) := dk_3 (dk_at dksX20_init_0 3 rfl rfl)
theorem dX20_init_4 : decode cX20_init 4 = .ok (.iconst 0, 1) := dk_3 (dk_at dksX20_init_0 4 rfl rfl)
theorem dX20_init_5 : decode cX20_init 5 = .ok (.invokespecial 1, 3) := dk_183 0 1 (dk_at dksX20_init_0 5 rfl rfl)
theorem dX20_init_8 : decode cX20_init 8 = .ok (.aload_n 0, 1) := dk_42 (dk_at dksX20_init_0 8 rfl rfl)
theorem dX20_init_9 : decode cX20_init 9 = .ok (.iload_n 1, 1) := dk_27 (dk_at dksX20_init_0 9 rfl rfl)
theorem dX20_init_10 : decode cX20_init 10 = .ok (.putfield 7, 3) := dk_181 0 7 (dk_at dksX20_init_0 10 rfl rfl)
theorem dX20_init_13 : decode cX20_init 13 = .ok (.return_, 1) := dk_177 (dk_at dksX20_init_0 13 rfl rfl)
theorem q113 : (Jvm.Cond.initialized "HamsterWeekends$Faulty") ∈ lw_all := lw_g (lw_at lw_m1 34 rfl) rfl
theorem q320 : (Jvm.Cond.selects "HamsterWeekends$Faulty" ({ cls := "java/lang/Throwable", name := "fillInStackTrace", desc := "()Ljava/lang/Throwable;" } : Jvm.MethodName) ({ cls := "java/lang/Throwable", name := "fillInStackTrace", desc := "()Ljava/lang/Throwable;" } : Jvm.MethodName)) ∈ lw_all := lw_g (lw_at lw_m2 1 rfl) rfl
theorem q922 : (Jvm.Cond.instantiable "HamsterWeekends$Faulty" (7 : Nat)) ∈ lw_all := lw_g (lw_at lw_m4 123 rfl) rfl
theorem q923 : (Jvm.Cond.castable "HamsterWeekends$Faulty" "HamsterWeekends$Faulty") ∈ lw_tbl := lw_at lw_m4 124 rfl
theorem q924 : (Jvm.Cond.selects "HamsterWeekends$Faulty" ({ cls := "java/lang/Throwable", name := "fillInStackTrace", desc := "(I)Ljava/lang/Throwable;" } : Jvm.MethodName) ({ cls := "java/lang/Throwable", name := "fillInStackTrace", desc := "(I)Ljava/lang/Throwable;" } : Jvm.MethodName)) ∈ lw_all := lw_g (lw_at lw_m4 125 rfl) rfl
theorem q925 : (Jvm.Cond.lays "HamsterWeekends$Faulty" "java/lang/Throwable" "cause" "Ljava/lang/Throwable;") ∈ lw_all := lw_g (lw_at lw_m4 126 rfl) rfl
theorem q926 : (Jvm.Cond.lays "HamsterWeekends$Faulty" "java/lang/Throwable" "stackTrace" "[Ljava/lang/StackTraceElement;") ∈ lw_all := lw_g (lw_at lw_m4 127 rfl) rfl
theorem q927 : (Jvm.Cond.lays "HamsterWeekends$Faulty" "java/lang/Throwable" "suppressedExceptions" "Ljava/util/List;") ∈ lw_all := lw_g (lw_at lw_m4 128 rfl) rfl
theorem q928 : (Jvm.Cond.lays "HamsterWeekends$Faulty" "java/lang/Throwable" "detailMessage" "Ljava/lang/String;") ∈ lw_all := lw_g (lw_at lw_m4 129 rfl) rfl
theorem q929 : (Jvm.Cond.lays "HamsterWeekends$Faulty" "java/lang/Throwable" "backtrace" "Ljava/lang/Object;") ∈ lw_all := lw_g (lw_at lw_m4 130 rfl) rfl
theorem q931 : (Jvm.Cond.instanceMethod ({ cls := "HamsterWeekends$Faulty", name := "<init>", desc := "(I)V" } : Jvm.MethodName)) ∈ lw_all := lw_g (lw_at lw_m4 132 rfl) rfl
theorem q932 : (Jvm.Cond.code ({ cls := "HamsterWeekends$Faulty", name := "<init>", desc := "(I)V" } : Jvm.MethodName) prog_7_method_1_code (2 : Nat) (Option.none : Option Jvm.ClassFile.FieldType)) ∈ lw_all := lw_g (lw_at lw_m4 133 rfl) rfl
theorem q933 : (Jvm.Cond.methodLink "HamsterWeekends$Faulty" (1 : Nat) ({ cls := "java/lang/Exception", name := "<init>", desc := "(Ljava/lang/String;Ljava/lang/Throwable;ZZ)V" } : Jvm.MethodName)) ∈ lw_all := lw_g (lw_at lw_m4 134 rfl) rfl
theorem q934 : (Jvm.Cond.fieldLink "HamsterWeekends$Faulty" (7 : Nat) "HamsterWeekends$Faulty" "place" "I") ∈ lw_all := lw_g (lw_at lw_m4 135 rfl) rfl
theorem q936 : (Jvm.Cond.laysFinal "HamsterWeekends$Faulty" "HamsterWeekends$Faulty" "place" "I") ∈ lw_all := lw_g (lw_at lw_m4 137 rfl) rfl
theorem q937 : (Jvm.Cond.soleField "HamsterWeekends$Faulty" "place") ∈ lw_all := lw_g (lw_at lw_m4 138 rfl) rfl
theorem q938 : (Jvm.Cond.lays "HamsterWeekends$Faulty" "java/lang/Throwable" "depth" "I") ∈ lw_all := lw_g (lw_at lw_m4 139 rfl) rfl
theorem q939 : (Jvm.Cond.superclass "HamsterWeekends$Faulty" "java/lang/Exception") ∈ lw_all := lw_g (lw_at lw_m4 140 rfl) rfl
theorem in_X20 : ∀ w ∈ wsX200, w ∈ lw_all := lw_in wsX200 [925, 926, 927, 928, 929, 938, 936] (by decide +kernel) (by decide +kernel)

/-! HamsterWeekends$Room -/
set_option maxRecDepth 100000
def RX3 : String := "HamsterWeekends$Room"
def TX3 : u_T := fun k => match k with
  | 0 => ("HamsterWeekends$Room", "many", "I", false)
  | 1 => ("HamsterWeekends$Room", "pets", "I", false)
  | 2 => ("HamsterWeekends$Room", "last", "I", false)
  | 3 => ("HamsterWeekends$Room", "seed", "I", false)
  | 4 => ("HamsterWeekends$Room", "pet", "LHamsterWeekends$Pet;", true)
  | 5 => ("HamsterWeekends$Room", "homes", "[LHamsterWeekends$Home;", true)
  | 6 => ("HamsterWeekends$Room", "marks", "[I", true)
  | 7 => ("HamsterWeekends$Room", "had", "[I", true)
  | 8 => ("HamsterWeekends$Room", "allergic", "[Z", true)
  | _ => ("HamsterWeekends$Room", "deaths", "[I", true)
def tyX3 : Nat → FieldType := fun k => match k with
  | 0 => .int
  | 1 => .int
  | 2 => .int
  | 3 => .int
  | 4 => .object "HamsterWeekends$Pet"
  | 5 => .array (.object "HamsterWeekends$Home")
  | 6 => .array .int
  | 7 => .array .int
  | 8 => .array .boolean
  | _ => .array .int
abbrev wsX30 : List Cond := u_ws RX3 TX3 10
theorem nmX3 : ∀ a, a < 10 → ∀ b, b < 10 → a ≠ b → (TX3 a).2.1 ≠ (TX3 b).2.1 := by decide +kernel
theorem tyX3_ok : ∀ k, k < 10 → parseFieldDescriptor (TX3 k).2.2.1 = some (tyX3 k) := by decide +kernel
abbrev cX3_init : ByteArray := prog_16_method_1_code
def yX3_init : MethodName := ⟨RX3, "<init>", "()V"⟩
def dkwX3_init_2 : List UInt8 := [16, 8, 188, 10, 181, 0, 38, 42, 16, 8, 188, 4, 181, 0, 41, 42, 6, 188, 10, 181, 0, 45, 177]
abbrev dktX3_init_2 : List UInt8 := dkwX3_init_2 ++ []
def dkwX3_init_1 : List UInt8 := [183, 0, 23, 181, 0, 24, 42, 16, 8, 189, 0, 28, 181, 0, 30, 42, 16, 8, 188, 10, 181, 0, 34, 42]
abbrev dktX3_init_1 : List UInt8 := dkwX3_init_1 ++ dktX3_init_2
def dkwX3_init_0 : List UInt8 := [42, 183, 0, 3, 42, 4, 181, 0, 9, 42, 2, 181, 0, 15, 42, 4, 181, 0, 18, 42, 187, 0, 21, 89]
abbrev dktX3_init_0 : List UInt8 := dkwX3_init_0 ++ dktX3_init_1
theorem dksX3_init_0 : cX3_init.data.toList.drop 0 = dktX3_init_0 := by decide +kernel
theorem dksX3_init_1 : cX3_init.data.toList.drop 24 = dktX3_init_1 := dk_seg dksX3_init_0 24 rfl rfl
theorem dksX3_init_2 : cX3_init.data.toList.drop 48 = dktX3_init_2 := dk_seg dksX3_init_1 24 rfl rfl
theorem dX3_init_0 : decode cX3_init 0 = .ok (.aload_n 0, 1) := dk_42 (dk_at dksX3_init_0 0 rfl rfl)
theorem dX3_init_1 : decode cX3_init 1 = .ok (.invokespecial 3, 3) := dk_183 0 3 (dk_at dksX3_init_0 1 rfl rfl)
theorem dX3_init_4 : decode cX3_init 4 = .ok (.aload_n 0, 1) := dk_42 (dk_at dksX3_init_0 4 rfl rfl)
theorem dX3_init_5 : decode cX3_init 5 = .ok (.iconst 1, 1) := dk_4 (dk_at dksX3_init_0 5 rfl rfl)
theorem dX3_init_6 : decode cX3_init 6 = .ok (.putfield 9, 3) := dk_181 0 9 (dk_at dksX3_init_0 6 rfl rfl)
theorem dX3_init_9 : decode cX3_init 9 = .ok (.aload_n 0, 1) := dk_42 (dk_at dksX3_init_0 9 rfl rfl)
theorem dX3_init_10 : decode cX3_init 10 = .ok (.iconst (-1), 1) := dk_2 (dk_at dksX3_init_0 10 rfl rfl)
theorem dX3_init_11 : decode cX3_init 11 = .ok (.putfield 15, 3) := dk_181 0 15 (dk_at dksX3_init_0 11 rfl rfl)
theorem dX3_init_14 : decode cX3_init 14 = .ok (.aload_n 0, 1) := dk_42 (dk_at dksX3_init_0 14 rfl rfl)
theorem dX3_init_15 : decode cX3_init 15 = .ok (.iconst 1, 1) := dk_4 (dk_at dksX3_init_0 15 rfl rfl)
theorem dX3_init_16 : decode cX3_init 16 = .ok (.putfield 18, 3) := dk_181 0 18 (dk_at dksX3_init_0 16 rfl rfl)
theorem dX3_init_19 : decode cX3_init 19 = .ok (.aload_n 0, 1) := dk_42 (dk_at dksX3_init_0 19 rfl rfl)
theorem dX3_init_20 : decode cX3_init 20 = .ok (.new 21, 3) := dk_187 0 21 (dk_at dksX3_init_0 20 rfl rfl)
theorem dX3_init_23 : decode cX3_init 23 = .ok (.dup, 1) := dk_89 (dk_at dksX3_init_0 23 rfl rfl)
theorem dX3_init_24 : decode cX3_init 24 = .ok (.invokespecial 23, 3) := dk_183 0 23 (dk_at dksX3_init_1 0 rfl rfl)
theorem dX3_init_27 : decode cX3_init 27 = .ok (.putfield 24, 3) := dk_181 0 24 (dk_at dksX3_init_1 3 rfl rfl)
theorem dX3_init_30 : decode cX3_init 30 = .ok (.aload_n 0, 1) := dk_42 (dk_at dksX3_init_1 6 rfl rfl)
theorem dX3_init_31 : decode cX3_init 31 = .ok (.bipush 8, 2) := dk_16 8 (dk_at dksX3_init_1 7 rfl rfl)
theorem dX3_init_33 : decode cX3_init 33 = .ok (.anewarray 28, 3) := dk_189 0 28 (dk_at dksX3_init_1 9 rfl rfl)
theorem dX3_init_36 : decode cX3_init 36 = .ok (.putfield 30, 3) := dk_181 0 30 (dk_at dksX3_init_1 12 rfl rfl)
theorem dX3_init_39 : decode cX3_init 39 = .ok (.aload_n 0, 1) := dk_42 (dk_at dksX3_init_1 15 rfl rfl)
theorem dX3_init_40 : decode cX3_init 40 = .ok (.bipush 8, 2) := dk_16 8 (dk_at dksX3_init_1 16 rfl rfl)
theorem dX3_init_42 : decode cX3_init 42 = .ok (.newarray .int, 2) := dk_188_10 (dk_at dksX3_init_1 18 rfl rfl)
theorem dX3_init_44 : decode cX3_init 44 = .ok (.putfield 34, 3) := dk_181 0 34 (dk_at dksX3_init_1 20 rfl rfl)
theorem dX3_init_47 : decode cX3_init 47 = .ok (.aload_n 0, 1) := dk_42 (dk_at dksX3_init_1 23 rfl rfl)
theorem dX3_init_48 : decode cX3_init 48 = .ok (.bipush 8, 2) := dk_16 8 (dk_at dksX3_init_2 0 rfl rfl)
theorem dX3_init_50 : decode cX3_init 50 = .ok (.newarray .int, 2) := dk_188_10 (dk_at dksX3_init_2 2 rfl rfl)
theorem dX3_init_52 : decode cX3_init 52 = .ok (.putfield 38, 3) := dk_181 0 38 (dk_at dksX3_init_2 4 rfl rfl)
theorem dX3_init_55 : decode cX3_init 55 = .ok (.aload_n 0, 1) := dk_42 (dk_at dksX3_init_2 7 rfl rfl)
theorem dX3_init_56 : decode cX3_init 56 = .ok (.bipush 8, 2) := dk_16 8 (dk_at dksX3_init_2 8 rfl rfl)
theorem dX3_init_58 : decode cX3_init 58 = .ok (.newarray .boolean, 2) := dk_188_4 (dk_at dksX3_init_2 10 rfl rfl)
theorem dX3_init_60 : decode cX3_init 60 = .ok (.putfield 41, 3) := dk_181 0 41 (dk_at dksX3_init_2 12 rfl rfl)
theorem dX3_init_63 : decode cX3_init 63 = .ok (.aload_n 0, 1) := dk_42 (dk_at dksX3_init_2 15 rfl rfl)
theorem dX3_init_64 : decode cX3_init 64 = .ok (.iconst 3, 1) := dk_6 (dk_at dksX3_init_2 16 rfl rfl)
theorem dX3_init_65 : decode cX3_init 65 = .ok (.newarray .int, 2) := dk_188_10 (dk_at dksX3_init_2 17 rfl rfl)
theorem dX3_init_67 : decode cX3_init 67 = .ok (.putfield 45, 3) := dk_181 0 45 (dk_at dksX3_init_2 19 rfl rfl)
theorem dX3_init_70 : decode cX3_init 70 = .ok (.return_, 1) := dk_177 (dk_at dksX3_init_2 22 rfl rfl)
abbrev cX3_isHome : ByteArray := prog_16_method_4_code
def yX3_isHome : MethodName := ⟨RX3, "isHome", "(I)Z"⟩
def dkwX3_isHome_0 : List UInt8 := [27, 133, 9, 42, 180, 0, 48, 4, 100, 133, 184, 0, 65, 172]
abbrev dktX3_isHome_0 : List UInt8 := dkwX3_isHome_0 ++ []
theorem dksX3_isHome_0 : cX3_isHome.data.toList.drop 0 = dktX3_isHome_0 := by decide +kernel
theorem dX3_isHome_0 : decode cX3_isHome 0 = .ok (.iload_n 1, 1) := dk_27 (dk_at dksX3_isHome_0 0 rfl rfl)
theorem dX3_isHome_1 : decode cX3_isHome 1 = .ok (.i2l, 1) := dk_133 (dk_at dksX3_isHome_0 1 rfl rfl)
theorem dX3_isHome_2 : decode cX3_isHome 2 = .ok (.lconst 0, 1) := dk_9 (dk_at dksX3_isHome_0 2 rfl rfl)
theorem dX3_isHome_3 : decode cX3_isHome 3 = .ok (.aload_n 0, 1) := dk_42 (dk_at dksX3_isHome_0 3 rfl rfl)
theorem dX3_isHome_4 : decode cX3_isHome 4 = .ok (.getfield 48, 3) := dk_180 0 48 (dk_at dksX3_isHome_0 4 rfl rfl)
theorem dX3_isHome_7 : decode cX3_isHome 7 = .ok (.iconst 1, 1) := dk_4 (dk_at dksX3_isHome_0 7 rfl rfl)
theorem dX3_isHome_8 : decode cX3_isHome 8 = .ok (.isub, 1) := dk_100 (dk_at dksX3_isHome_0 8 rfl rfl)
theorem dX3_isHome_9 : decode cX3_isHome 9 = .ok (.i2l, 1) := dk_133 (dk_at dksX3_isHome_0 9 rfl rfl)
theorem dX3_isHome_10 : decode cX3_isHome 10 = .ok (.invokestatic 65, 3) := dk_184 0 65 (dk_at dksX3_isHome_0 10 rfl rfl)
theorem dX3_isHome_13 : decode cX3_isHome 13 = .ok (.ireturn, 1) := dk_172 (dk_at dksX3_isHome_0 13 rfl rfl)
abbrev cX3_addHome : ByteArray := prog_16_method_3_code
def yX3_addHome : MethodName := ⟨RX3, "addHome", "(II)V"⟩
def dkwX3_addHome_2 : List UInt8 := [84, 42, 89, 180, 0, 48, 4, 96, 181, 0, 48, 177]
abbrev dktX3_addHome_2 : List UInt8 := dkwX3_addHome_2 ++ []
def dkwX3_addHome_1 : List UInt8 := [180, 0, 48, 3, 79, 42, 180, 0, 38, 42, 180, 0, 48, 3, 79, 42, 180, 0, 41, 42, 180, 0, 48, 3]
abbrev dktX3_addHome_1 : List UInt8 := dkwX3_addHome_1 ++ dktX3_addHome_2
def dkwX3_addHome_0 : List UInt8 := [42, 180, 0, 30, 42, 180, 0, 48, 27, 42, 180, 0, 48, 28, 184, 0, 61, 83, 42, 180, 0, 34, 42]
abbrev dktX3_addHome_0 : List UInt8 := dkwX3_addHome_0 ++ dktX3_addHome_1
theorem dksX3_addHome_0 : cX3_addHome.data.toList.drop 0 = dktX3_addHome_0 := by decide +kernel
theorem dksX3_addHome_1 : cX3_addHome.data.toList.drop 23 = dktX3_addHome_1 := dk_seg dksX3_addHome_0 23 rfl rfl
theorem dksX3_addHome_2 : cX3_addHome.data.toList.drop 47 = dktX3_addHome_2 := dk_seg dksX3_addHome_1 24 rfl rfl
theorem dX3_addHome_0 : decode cX3_addHome 0 = .ok (.aload_n 0, 1) := dk_42 (dk_at dksX3_addHome_0 0 rfl rfl)
theorem dX3_addHome_1 : decode cX3_addHome 1 = .ok (.getfield 30, 3) := dk_180 0 30 (dk_at dksX3_addHome_0 1 rfl rfl)
theorem dX3_addHome_4 : decode cX3_addHome 4 = .ok (.aload_n 0, 1) := dk_42 (dk_at dksX3_addHome_0 4 rfl rfl)
theorem dX3_addHome_5 : decode cX3_addHome 5 = .ok (.getfield 48, 3) := dk_180 0 48 (dk_at dksX3_addHome_0 5 rfl rfl)
theorem dX3_addHome_8 : decode cX3_addHome 8 = .ok (.iload_n 1, 1) := dk_27 (dk_at dksX3_addHome_0 8 rfl rfl)
theorem dX3_addHome_9 : decode cX3_addHome 9 = .ok (.aload_n 0, 1) := dk_42 (dk_at dksX3_addHome_0 9 rfl rfl)
theorem dX3_addHome_10 : decode cX3_addHome 10 = .ok (.getfield 48, 3) := dk_180 0 48 (dk_at dksX3_addHome_0 10 rfl rfl)
theorem dX3_addHome_13 : decode cX3_addHome 13 = .ok (.iload_n 2, 1) := dk_28 (dk_at dksX3_addHome_0 13 rfl rfl)
theorem dX3_addHome_14 : decode cX3_addHome 14 = .ok (.invokestatic 61, 3) := dk_184 0 61 (dk_at dksX3_addHome_0 14 rfl rfl)
theorem dX3_addHome_17 : decode cX3_addHome 17 = .ok (.aastore, 1) := dk_83 (dk_at dksX3_addHome_0 17 rfl rfl)
theorem dX3_addHome_18 : decode cX3_addHome 18 = .ok (.aload_n 0, 1) := dk_42 (dk_at dksX3_addHome_0 18 rfl rfl)
theorem dX3_addHome_19 : decode cX3_addHome 19 = .ok (.getfield 34, 3) := dk_180 0 34 (dk_at dksX3_addHome_0 19 rfl rfl)
theorem dX3_addHome_22 : decode cX3_addHome 22 = .ok (.aload_n 0, 1) := dk_42 (dk_at dksX3_addHome_0 22 rfl rfl)
theorem dX3_addHome_23 : decode cX3_addHome 23 = .ok (.getfield 48, 3) := dk_180 0 48 (dk_at dksX3_addHome_1 0 rfl rfl)
theorem dX3_addHome_26 : decode cX3_addHome 26 = .ok (.iconst 0, 1) := dk_3 (dk_at dksX3_addHome_1 3 rfl rfl)
theorem dX3_addHome_27 : decode cX3_addHome 27 = .ok (.iastore, 1) := dk_79 (dk_at dksX3_addHome_1 4 rfl rfl)
theorem dX3_addHome_28 : decode cX3_addHome 28 = .ok (.aload_n 0, 1) := dk_42 (dk_at dksX3_addHome_1 5 rfl rfl)
theorem dX3_addHome_29 : decode cX3_addHome 29 = .ok (.getfield 38, 3) := dk_180 0 38 (dk_at dksX3_addHome_1 6 rfl rfl)
theorem dX3_addHome_32 : decode cX3_addHome 32 = .ok (.aload_n 0, 1) := dk_42 (dk_at dksX3_addHome_1 9 rfl rfl)
theorem dX3_addHome_33 : decode cX3_addHome 33 = .ok (.getfield 48, 3) := dk_180 0 48 (dk_at dksX3_addHome_1 10 rfl rfl)
theorem dX3_addHome_36 : decode cX3_addHome 36 = .ok (.iconst 0, 1) := dk_3 (dk_at dksX3_addHome_1 13 rfl rfl)
theorem dX3_addHome_37 : decode cX3_addHome 37 = .ok (.iastore, 1) := dk_79 (dk_at dksX3_addHome_1 14 rfl rfl)
theorem dX3_addHome_38 : decode cX3_addHome 38 = .ok (.aload_n 0, 1) := dk_42 (dk_at dksX3_addHome_1 15 rfl rfl)
theorem dX3_addHome_39 : decode cX3_addHome 39 = .ok (.getfield 41, 3) := dk_180 0 41 (dk_at dksX3_addHome_1 16 rfl rfl)
theorem dX3_addHome_42 : decode cX3_addHome 42 = .ok (.aload_n 0, 1) := dk_42 (dk_at dksX3_addHome_1 19 rfl rfl)
theorem dX3_addHome_43 : decode cX3_addHome 43 = .ok (.getfield 48, 3) := dk_180 0 48 (dk_at dksX3_addHome_1 20 rfl rfl)
theorem dX3_addHome_46 : decode cX3_addHome 46 = .ok (.iconst 0, 1) := dk_3 (dk_at dksX3_addHome_1 23 rfl rfl)
theorem dX3_addHome_47 : decode cX3_addHome 47 = .ok (.bastore, 1) := dk_84 (dk_at dksX3_addHome_2 0 rfl rfl)
theorem dX3_addHome_48 : decode cX3_addHome 48 = .ok (.aload_n 0, 1) := dk_42 (dk_at dksX3_addHome_2 1 rfl rfl)
theorem dX3_addHome_49 : decode cX3_addHome 49 = .ok (.dup, 1) := dk_89 (dk_at dksX3_addHome_2 2 rfl rfl)
theorem dX3_addHome_50 : decode cX3_addHome 50 = .ok (.getfield 48, 3) := dk_180 0 48 (dk_at dksX3_addHome_2 3 rfl rfl)
theorem dX3_addHome_53 : decode cX3_addHome 53 = .ok (.iconst 1, 1) := dk_4 (dk_at dksX3_addHome_2 6 rfl rfl)
theorem dX3_addHome_54 : decode cX3_addHome 54 = .ok (.iadd, 1) := dk_96 (dk_at dksX3_addHome_2 7 rfl rfl)
theorem dX3_addHome_55 : decode cX3_addHome 55 = .ok (.putfield 48, 3) := dk_181 0 48 (dk_at dksX3_addHome_2 8 rfl rfl)
theorem dX3_addHome_58 : decode cX3_addHome 58 = .ok (.return_, 1) := dk_177 (dk_at dksX3_addHome_2 11 rfl rfl)
abbrev cX3_take : ByteArray := prog_16_method_2_code
def yX3_take : MethodName := ⟨RX3, "take", "(LHamsterWeekends$Room;)LHamsterWeekends$Room;"⟩
def dkwX3_take_5 : List UInt8 := [180, 0, 45, 3, 6, 184, 0, 55, 42, 176]
abbrev dktX3_take_5 : List UInt8 := dkwX3_take_5 ++ []
def dkwX3_take_4 : List UInt8 := [180, 0, 41, 3, 42, 180, 0, 41, 3, 42, 180, 0, 48, 184, 0, 55, 43, 180, 0, 45, 3, 42]
abbrev dktX3_take_4 : List UInt8 := dkwX3_take_4 ++ dktX3_take_5
def dkwX3_take_3 : List UInt8 := [180, 0, 48, 184, 0, 55, 43, 180, 0, 38, 3, 42, 180, 0, 38, 3, 42, 180, 0, 48, 184, 0, 55, 43]
abbrev dktX3_take_3 : List UInt8 := dkwX3_take_3 ++ dktX3_take_4
def dkwX3_take_2 : List UInt8 := [3, 42, 180, 0, 30, 3, 42, 180, 0, 48, 184, 0, 55, 43, 180, 0, 34, 3, 42, 180, 0, 34, 3, 42]
abbrev dktX3_take_2 : List UInt8 := dkwX3_take_2 ++ dktX3_take_3
def dkwX3_take_1 : List UInt8 := [42, 43, 180, 0, 18, 181, 0, 18, 42, 180, 0, 24, 43, 180, 0, 24, 182, 0, 51, 87, 43, 180, 0, 30]
abbrev dktX3_take_1 : List UInt8 := dkwX3_take_1 ++ dktX3_take_2
def dkwX3_take_0 : List UInt8 := [42, 43, 180, 0, 48, 181, 0, 48, 42, 43, 180, 0, 9, 181, 0, 9, 42, 43, 180, 0, 15, 181, 0, 15]
abbrev dktX3_take_0 : List UInt8 := dkwX3_take_0 ++ dktX3_take_1
theorem dksX3_take_0 : cX3_take.data.toList.drop 0 = dktX3_take_0 := by decide +kernel
theorem dksX3_take_1 : cX3_take.data.toList.drop 24 = dktX3_take_1 := dk_seg dksX3_take_0 24 rfl rfl
theorem dksX3_take_2 : cX3_take.data.toList.drop 48 = dktX3_take_2 := dk_seg dksX3_take_1 24 rfl rfl
theorem dksX3_take_3 : cX3_take.data.toList.drop 72 = dktX3_take_3 := dk_seg dksX3_take_2 24 rfl rfl
theorem dksX3_take_4 : cX3_take.data.toList.drop 96 = dktX3_take_4 := dk_seg dksX3_take_3 24 rfl rfl
theorem dksX3_take_5 : cX3_take.data.toList.drop 118 = dktX3_take_5 := dk_seg dksX3_take_4 22 rfl rfl
theorem dX3_take_0 : decode cX3_take 0 = .ok (.aload_n 0, 1) := dk_42 (dk_at dksX3_take_0 0 rfl rfl)
theorem dX3_take_1 : decode cX3_take 1 = .ok (.aload_n 1, 1) := dk_43 (dk_at dksX3_take_0 1 rfl rfl)
theorem dX3_take_2 : decode cX3_take 2 = .ok (.getfield 48, 3) := dk_180 0 48 (dk_at dksX3_take_0 2 rfl rfl)
theorem dX3_take_5 : decode cX3_take 5 = .ok (.putfield 48, 3) := dk_181 0 48 (dk_at dksX3_take_0 5 rfl rfl)
theorem dX3_take_8 : decode cX3_take 8 = .ok (.aload_n 0, 1) := dk_42 (dk_at dksX3_take_0 8 rfl rfl)
theorem dX3_take_9 : decode cX3_take 9 = .ok (.aload_n 1, 1) := dk_43 (dk_at dksX3_take_0 9 rfl rfl)
theorem dX3_take_10 : decode cX3_take 10 = .ok (.getfield 9, 3) := dk_180 0 9 (dk_at dksX3_take_0 10 rfl rfl)
theorem dX3_take_13 : decode cX3_take 13 = .ok (.putfield 9, 3) := dk_181 0 9 (dk_at dksX3_take_0 13 rfl rfl)
theorem dX3_take_16 : decode cX3_take 16 = .ok (.aload_n 0, 1) := dk_42 (dk_at dksX3_take_0 16 rfl rfl)
theorem dX3_take_17 : decode cX3_take 17 = .ok (.aload_n 1, 1) := dk_43 (dk_at dksX3_take_0 17 rfl rfl)
theorem dX3_take_18 : decode cX3_take 18 = .ok (.getfield 15, 3) := dk_180 0 15 (dk_at dksX3_take_0 18 rfl rfl)
theorem dX3_take_21 : decode cX3_take 21 = .ok (.putfield 15, 3) := dk_181 0 15 (dk_at dksX3_take_0 21 rfl rfl)
theorem dX3_take_24 : decode cX3_take 24 = .ok (.aload_n 0, 1) := dk_42 (dk_at dksX3_take_1 0 rfl rfl)
theorem dX3_take_25 : decode cX3_take 25 = .ok (.aload_n 1, 1) := dk_43 (dk_at dksX3_take_1 1 rfl rfl)
theorem dX3_take_26 : decode cX3_take 26 = .ok (.getfield 18, 3) := dk_180 0 18 (dk_at dksX3_take_1 2 rfl rfl)
theorem dX3_take_29 : decode cX3_take 29 = .ok (.putfield 18, 3) := dk_181 0 18 (dk_at dksX3_take_1 5 rfl rfl)
theorem dX3_take_32 : decode cX3_take 32 = .ok (.aload_n 0, 1) := dk_42 (dk_at dksX3_take_1 8 rfl rfl)
theorem dX3_take_33 : decode cX3_take 33 = .ok (.getfield 24, 3) := dk_180 0 24 (dk_at dksX3_take_1 9 rfl rfl)
theorem dX3_take_36 : decode cX3_take 36 = .ok (.aload_n 1, 1) := dk_43 (dk_at dksX3_take_1 12 rfl rfl)
theorem dX3_take_37 : decode cX3_take 37 = .ok (.getfield 24, 3) := dk_180 0 24 (dk_at dksX3_take_1 13 rfl rfl)
theorem dX3_take_40 : decode cX3_take 40 = .ok (.invokevirtual 51, 3) := dk_182 0 51 (dk_at dksX3_take_1 16 rfl rfl)
theorem dX3_take_43 : decode cX3_take 43 = .ok (.pop, 1) := dk_87 (dk_at dksX3_take_1 19 rfl rfl)
theorem dX3_take_44 : decode cX3_take 44 = .ok (.aload_n 1, 1) := dk_43 (dk_at dksX3_take_1 20 rfl rfl)
theorem dX3_take_45 : decode cX3_take 45 = .ok (.getfield 30, 3) := dk_180 0 30 (dk_at dksX3_take_1 21 rfl rfl)
theorem dX3_take_48 : decode cX3_take 48 = .ok (.iconst 0, 1) := dk_3 (dk_at dksX3_take_2 0 rfl rfl)
theorem dX3_take_49 : decode cX3_take 49 = .ok (.aload_n 0, 1) := dk_42 (dk_at dksX3_take_2 1 rfl rfl)
theorem dX3_take_50 : decode cX3_take 50 = .ok (.getfield 30, 3) := dk_180 0 30 (dk_at dksX3_take_2 2 rfl rfl)
theorem dX3_take_53 : decode cX3_take 53 = .ok (.iconst 0, 1) := dk_3 (dk_at dksX3_take_2 5 rfl rfl)
theorem dX3_take_54 : decode cX3_take 54 = .ok (.aload_n 0, 1) := dk_42 (dk_at dksX3_take_2 6 rfl rfl)
theorem dX3_take_55 : decode cX3_take 55 = .ok (.getfield 48, 3) := dk_180 0 48 (dk_at dksX3_take_2 7 rfl rfl)
theorem dX3_take_58 : decode cX3_take 58 = .ok (.invokestatic 55, 3) := dk_184 0 55 (dk_at dksX3_take_2 10 rfl rfl)
theorem dX3_take_61 : decode cX3_take 61 = .ok (.aload_n 1, 1) := dk_43 (dk_at dksX3_take_2 13 rfl rfl)
theorem dX3_take_62 : decode cX3_take 62 = .ok (.getfield 34, 3) := dk_180 0 34 (dk_at dksX3_take_2 14 rfl rfl)
theorem dX3_take_65 : decode cX3_take 65 = .ok (.iconst 0, 1) := dk_3 (dk_at dksX3_take_2 17 rfl rfl)
theorem dX3_take_66 : decode cX3_take 66 = .ok (.aload_n 0, 1) := dk_42 (dk_at dksX3_take_2 18 rfl rfl)
theorem dX3_take_67 : decode cX3_take 67 = .ok (.getfield 34, 3) := dk_180 0 34 (dk_at dksX3_take_2 19 rfl rfl)
theorem dX3_take_70 : decode cX3_take 70 = .ok (.iconst 0, 1) := dk_3 (dk_at dksX3_take_2 22 rfl rfl)
theorem dX3_take_71 : decode cX3_take 71 = .ok (.aload_n 0, 1) := dk_42 (dk_at dksX3_take_2 23 rfl rfl)
theorem dX3_take_72 : decode cX3_take 72 = .ok (.getfield 48, 3) := dk_180 0 48 (dk_at dksX3_take_3 0 rfl rfl)
theorem dX3_take_75 : decode cX3_take 75 = .ok (.invokestatic 55, 3) := dk_184 0 55 (dk_at dksX3_take_3 3 rfl rfl)
theorem dX3_take_78 : decode cX3_take 78 = .ok (.aload_n 1, 1) := dk_43 (dk_at dksX3_take_3 6 rfl rfl)
theorem dX3_take_79 : decode cX3_take 79 = .ok (.getfield 38, 3) := dk_180 0 38 (dk_at dksX3_take_3 7 rfl rfl)
theorem dX3_take_82 : decode cX3_take 82 = .ok (.iconst 0, 1) := dk_3 (dk_at dksX3_take_3 10 rfl rfl)
theorem dX3_take_83 : decode cX3_take 83 = .ok (.aload_n 0, 1) := dk_42 (dk_at dksX3_take_3 11 rfl rfl)
theorem dX3_take_84 : decode cX3_take 84 = .ok (.getfield 38, 3) := dk_180 0 38 (dk_at dksX3_take_3 12 rfl rfl)
theorem dX3_take_87 : decode cX3_take 87 = .ok (.iconst 0, 1) := dk_3 (dk_at dksX3_take_3 15 rfl rfl)
theorem dX3_take_88 : decode cX3_take 88 = .ok (.aload_n 0, 1) := dk_42 (dk_at dksX3_take_3 16 rfl rfl)
theorem dX3_take_89 : decode cX3_take 89 = .ok (.getfield 48, 3) := dk_180 0 48 (dk_at dksX3_take_3 17 rfl rfl)
theorem dX3_take_92 : decode cX3_take 92 = .ok (.invokestatic 55, 3) := dk_184 0 55 (dk_at dksX3_take_3 20 rfl rfl)
theorem dX3_take_95 : decode cX3_take 95 = .ok (.aload_n 1, 1) := dk_43 (dk_at dksX3_take_3 23 rfl rfl)
theorem dX3_take_96 : decode cX3_take 96 = .ok (.getfield 41, 3) := dk_180 0 41 (dk_at dksX3_take_4 0 rfl rfl)
theorem dX3_take_99 : decode cX3_take 99 = .ok (.iconst 0, 1) := dk_3 (dk_at dksX3_take_4 3 rfl rfl)
theorem dX3_take_100 : decode cX3_take 100 = .ok (.aload_n 0, 1) := dk_42 (dk_at dksX3_take_4 4 rfl rfl)
theorem dX3_take_101 : decode cX3_take 101 = .ok (.getfield 41, 3) := dk_180 0 41 (dk_at dksX3_take_4 5 rfl rfl)
theorem dX3_take_104 : decode cX3_take 104 = .ok (.iconst 0, 1) := dk_3 (dk_at dksX3_take_4 8 rfl rfl)
theorem dX3_take_105 : decode cX3_take 105 = .ok (.aload_n 0, 1) := dk_42 (dk_at dksX3_take_4 9 rfl rfl)
theorem dX3_take_106 : decode cX3_take 106 = .ok (.getfield 48, 3) := dk_180 0 48 (dk_at dksX3_take_4 10 rfl rfl)
theorem dX3_take_109 : decode cX3_take 109 = .ok (.invokestatic 55, 3) := dk_184 0 55 (dk_at dksX3_take_4 13 rfl rfl)
theorem dX3_take_112 : decode cX3_take 112 = .ok (.aload_n 1, 1) := dk_43 (dk_at dksX3_take_4 16 rfl rfl)
theorem dX3_take_113 : decode cX3_take 113 = .ok (.getfield 45, 3) := dk_180 0 45 (dk_at dksX3_take_4 17 rfl rfl)
theorem dX3_take_116 : decode cX3_take 116 = .ok (.iconst 0, 1) := dk_3 (dk_at dksX3_take_4 20 rfl rfl)
theorem dX3_take_117 : decode cX3_take 117 = .ok (.aload_n 0, 1) := dk_42 (dk_at dksX3_take_4 21 rfl rfl)
theorem dX3_take_118 : decode cX3_take 118 = .ok (.getfield 45, 3) := dk_180 0 45 (dk_at dksX3_take_5 0 rfl rfl)
theorem dX3_take_121 : decode cX3_take 121 = .ok (.iconst 0, 1) := dk_3 (dk_at dksX3_take_5 3 rfl rfl)
theorem dX3_take_122 : decode cX3_take 122 = .ok (.iconst 3, 1) := dk_6 (dk_at dksX3_take_5 4 rfl rfl)
theorem dX3_take_123 : decode cX3_take 123 = .ok (.invokestatic 55, 3) := dk_184 0 55 (dk_at dksX3_take_5 5 rfl rfl)
theorem dX3_take_126 : decode cX3_take 126 = .ok (.aload_n 0, 1) := dk_42 (dk_at dksX3_take_5 8 rfl rfl)
theorem dX3_take_127 : decode cX3_take 127 = .ok (.areturn, 1) := dk_176 (dk_at dksX3_take_5 9 rfl rfl)
abbrev cX3_may : ByteArray := prog_16_method_5_code
def yX3_may : MethodName := ⟨RX3, "may", "(I)Z"⟩
def dkwX3_may_0 : List UInt8 := [42, 27, 182, 0, 69, 153, 0, 16, 42, 180, 0, 41, 27, 51, 154, 0, 7, 4, 167, 0, 4, 3, 172]
abbrev dktX3_may_0 : List UInt8 := dkwX3_may_0 ++ []
theorem dksX3_may_0 : cX3_may.data.toList.drop 0 = dktX3_may_0 := by decide +kernel
theorem dX3_may_0 : decode cX3_may 0 = .ok (.aload_n 0, 1) := dk_42 (dk_at dksX3_may_0 0 rfl rfl)
theorem dX3_may_1 : decode cX3_may 1 = .ok (.iload_n 1, 1) := dk_27 (dk_at dksX3_may_0 1 rfl rfl)
theorem dX3_may_2 : decode cX3_may 2 = .ok (.invokevirtual 69, 3) := dk_182 0 69 (dk_at dksX3_may_0 2 rfl rfl)
theorem dX3_may_5 : decode cX3_may 5 = .ok (.ifCond .eq 16, 3) := dk_153 0 16 (dk_at dksX3_may_0 5 rfl rfl)
theorem dX3_may_8 : decode cX3_may 8 = .ok (.aload_n 0, 1) := dk_42 (dk_at dksX3_may_0 8 rfl rfl)
theorem dX3_may_9 : decode cX3_may 9 = .ok (.getfield 41, 3) := dk_180 0 41 (dk_at dksX3_may_0 9 rfl rfl)
theorem dX3_may_12 : decode cX3_may 12 = .ok (.iload_n 1, 1) := dk_27 (dk_at dksX3_may_0 12 rfl rfl)
theorem dX3_may_13 : decode cX3_may 13 = .ok (.baload, 1) := dk_51 (dk_at dksX3_may_0 13 rfl rfl)
theorem dX3_may_14 : decode cX3_may 14 = .ok (.ifCond .ne 7, 3) := dk_154 0 7 (dk_at dksX3_may_0 14 rfl rfl)
theorem dX3_may_17 : decode cX3_may 17 = .ok (.iconst 1, 1) := dk_4 (dk_at dksX3_may_0 17 rfl rfl)
theorem dX3_may_18 : decode cX3_may 18 = .ok (.goto 4, 3) := dk_167 0 4 (dk_at dksX3_may_0 18 rfl rfl)
theorem dX3_may_21 : decode cX3_may 21 = .ok (.iconst 0, 1) := dk_3 (dk_at dksX3_may_0 21 rfl rfl)
theorem dX3_may_22 : decode cX3_may 22 = .ok (.ireturn, 1) := dk_172 (dk_at dksX3_may_0 22 rfl rfl)
abbrev cX3_week : ByteArray := prog_16_method_11_code
def yX3_week : MethodName := ⟨RX3, "week", "(I)I"⟩
def dkwX3_week_3 : List UInt8 := [182, 0, 88, 28, 172]
abbrev dktX3_week_3 : List UInt8 := dkwX3_week_3 ++ []
def dkwX3_week_2 : List UInt8 := [180, 0, 45, 28, 92, 46, 4, 96, 79, 42, 89, 180, 0, 9, 4, 96, 181, 0, 9, 42, 180, 0, 24]
abbrev dktX3_week_2 : List UInt8 := dkwX3_week_2 ++ dktX3_week_3
def dkwX3_week_1 : List UInt8 := [4, 96, 79, 42, 27, 181, 0, 15, 42, 180, 0, 24, 182, 0, 84, 61, 28, 2, 159, 0, 30, 42]
abbrev dktX3_week_1 : List UInt8 := dkwX3_week_1 ++ dktX3_week_2
def dkwX3_week_0 : List UInt8 := [42, 180, 0, 24, 42, 27, 182, 0, 76, 182, 0, 80, 27, 2, 159, 0, 18, 42, 180, 0, 38, 27, 92, 46]
abbrev dktX3_week_0 : List UInt8 := dkwX3_week_0 ++ dktX3_week_1
theorem dksX3_week_0 : cX3_week.data.toList.drop 0 = dktX3_week_0 := by decide +kernel
theorem dksX3_week_1 : cX3_week.data.toList.drop 24 = dktX3_week_1 := dk_seg dksX3_week_0 24 rfl rfl
theorem dksX3_week_2 : cX3_week.data.toList.drop 46 = dktX3_week_2 := dk_seg dksX3_week_1 22 rfl rfl
theorem dksX3_week_3 : cX3_week.data.toList.drop 69 = dktX3_week_3 := dk_seg dksX3_week_2 23 rfl rfl
theorem dX3_week_0 : decode cX3_week 0 = .ok (.aload_n 0, 1) := dk_42 (dk_at dksX3_week_0 0 rfl rfl)
theorem dX3_week_1 : decode cX3_week 1 = .ok (.getfield 24, 3) := dk_180 0 24 (dk_at dksX3_week_0 1 rfl rfl)
theorem dX3_week_4 : decode cX3_week 4 = .ok (.aload_n 0, 1) := dk_42 (dk_at dksX3_week_0 4 rfl rfl)
theorem dX3_week_5 : decode cX3_week 5 = .ok (.iload_n 1, 1) := dk_27 (dk_at dksX3_week_0 5 rfl rfl)
theorem dX3_week_6 : decode cX3_week 6 = .ok (.invokevirtual 76, 3) := dk_182 0 76 (dk_at dksX3_week_0 6 rfl rfl)
theorem dX3_week_9 : decode cX3_week 9 = .ok (.invokevirtual 80, 3) := dk_182 0 80 (dk_at dksX3_week_0 9 rfl rfl)
theorem dX3_week_12 : decode cX3_week 12 = .ok (.iload_n 1, 1) := dk_27 (dk_at dksX3_week_0 12 rfl rfl)
theorem dX3_week_13 : decode cX3_week 13 = .ok (.iconst (-1), 1) := dk_2 (dk_at dksX3_week_0 13 rfl rfl)
theorem dX3_week_14 : decode cX3_week 14 = .ok (.if_icmp .eq 18, 3) := dk_159 0 18 (dk_at dksX3_week_0 14 rfl rfl)
theorem dX3_week_17 : decode cX3_week 17 = .ok (.aload_n 0, 1) := dk_42 (dk_at dksX3_week_0 17 rfl rfl)
theorem dX3_week_18 : decode cX3_week 18 = .ok (.getfield 38, 3) := dk_180 0 38 (dk_at dksX3_week_0 18 rfl rfl)
theorem dX3_week_21 : decode cX3_week 21 = .ok (.iload_n 1, 1) := dk_27 (dk_at dksX3_week_0 21 rfl rfl)
theorem dX3_week_22 : decode cX3_week 22 = .ok (.dup2, 1) := dk_92 (dk_at dksX3_week_0 22 rfl rfl)
theorem dX3_week_23 : decode cX3_week 23 = .ok (.iaload, 1) := dk_46 (dk_at dksX3_week_0 23 rfl rfl)
theorem dX3_week_24 : decode cX3_week 24 = .ok (.iconst 1, 1) := dk_4 (dk_at dksX3_week_1 0 rfl rfl)
theorem dX3_week_25 : decode cX3_week 25 = .ok (.iadd, 1) := dk_96 (dk_at dksX3_week_1 1 rfl rfl)
theorem dX3_week_26 : decode cX3_week 26 = .ok (.iastore, 1) := dk_79 (dk_at dksX3_week_1 2 rfl rfl)
theorem dX3_week_27 : decode cX3_week 27 = .ok (.aload_n 0, 1) := dk_42 (dk_at dksX3_week_1 3 rfl rfl)
theorem dX3_week_28 : decode cX3_week 28 = .ok (.iload_n 1, 1) := dk_27 (dk_at dksX3_week_1 4 rfl rfl)
theorem dX3_week_29 : decode cX3_week 29 = .ok (.putfield 15, 3) := dk_181 0 15 (dk_at dksX3_week_1 5 rfl rfl)
theorem dX3_week_32 : decode cX3_week 32 = .ok (.aload_n 0, 1) := dk_42 (dk_at dksX3_week_1 8 rfl rfl)
theorem dX3_week_33 : decode cX3_week 33 = .ok (.getfield 24, 3) := dk_180 0 24 (dk_at dksX3_week_1 9 rfl rfl)
theorem dX3_week_36 : decode cX3_week 36 = .ok (.invokevirtual 84, 3) := dk_182 0 84 (dk_at dksX3_week_1 12 rfl rfl)
theorem dX3_week_39 : decode cX3_week 39 = .ok (.istore_n 2, 1) := dk_61 (dk_at dksX3_week_1 15 rfl rfl)
theorem dX3_week_40 : decode cX3_week 40 = .ok (.iload_n 2, 1) := dk_28 (dk_at dksX3_week_1 16 rfl rfl)
theorem dX3_week_41 : decode cX3_week 41 = .ok (.iconst (-1), 1) := dk_2 (dk_at dksX3_week_1 17 rfl rfl)
theorem dX3_week_42 : decode cX3_week 42 = .ok (.if_icmp .eq 30, 3) := dk_159 0 30 (dk_at dksX3_week_1 18 rfl rfl)
theorem dX3_week_45 : decode cX3_week 45 = .ok (.aload_n 0, 1) := dk_42 (dk_at dksX3_week_1 21 rfl rfl)
theorem dX3_week_46 : decode cX3_week 46 = .ok (.getfield 45, 3) := dk_180 0 45 (dk_at dksX3_week_2 0 rfl rfl)
theorem dX3_week_49 : decode cX3_week 49 = .ok (.iload_n 2, 1) := dk_28 (dk_at dksX3_week_2 3 rfl rfl)
theorem dX3_week_50 : decode cX3_week 50 = .ok (.dup2, 1) := dk_92 (dk_at dksX3_week_2 4 rfl rfl)
theorem dX3_week_51 : decode cX3_week 51 = .ok (.iaload, 1) := dk_46 (dk_at dksX3_week_2 5 rfl rfl)
theorem dX3_week_52 : decode cX3_week 52 = .ok (.iconst 1, 1) := dk_4 (dk_at dksX3_week_2 6 rfl rfl)
theorem dX3_week_53 : decode cX3_week 53 = .ok (.iadd, 1) := dk_96 (dk_at dksX3_week_2 7 rfl rfl)
theorem dX3_week_54 : decode cX3_week 54 = .ok (.iastore, 1) := dk_79 (dk_at dksX3_week_2 8 rfl rfl)
theorem dX3_week_55 : decode cX3_week 55 = .ok (.aload_n 0, 1) := dk_42 (dk_at dksX3_week_2 9 rfl rfl)
theorem dX3_week_56 : decode cX3_week 56 = .ok (.dup, 1) := dk_89 (dk_at dksX3_week_2 10 rfl rfl)
theorem dX3_week_57 : decode cX3_week 57 = .ok (.getfield 9, 3) := dk_180 0 9 (dk_at dksX3_week_2 11 rfl rfl)
theorem dX3_week_60 : decode cX3_week 60 = .ok (.iconst 1, 1) := dk_4 (dk_at dksX3_week_2 14 rfl rfl)
theorem dX3_week_61 : decode cX3_week 61 = .ok (.iadd, 1) := dk_96 (dk_at dksX3_week_2 15 rfl rfl)
theorem dX3_week_62 : decode cX3_week 62 = .ok (.putfield 9, 3) := dk_181 0 9 (dk_at dksX3_week_2 16 rfl rfl)
theorem dX3_week_65 : decode cX3_week 65 = .ok (.aload_n 0, 1) := dk_42 (dk_at dksX3_week_2 19 rfl rfl)
theorem dX3_week_66 : decode cX3_week 66 = .ok (.getfield 24, 3) := dk_180 0 24 (dk_at dksX3_week_2 20 rfl rfl)
theorem dX3_week_69 : decode cX3_week 69 = .ok (.invokevirtual 88, 3) := dk_182 0 88 (dk_at dksX3_week_3 0 rfl rfl)
theorem dX3_week_72 : decode cX3_week 72 = .ok (.iload_n 2, 1) := dk_28 (dk_at dksX3_week_3 3 rfl rfl)
theorem dX3_week_73 : decode cX3_week 73 = .ok (.ireturn, 1) := dk_172 (dk_at dksX3_week_3 4 rfl rfl)
abbrev cX3_of : ByteArray := prog_16_method_8_code
def yX3_of : MethodName := ⟨RX3, "of", "(I)LHamsterWeekends$Home;"⟩
def dkwX3_of_0 : List UInt8 := [27, 2, 160, 0, 7, 1, 167, 0, 9, 42, 180, 0, 30, 27, 50, 176]
abbrev dktX3_of_0 : List UInt8 := dkwX3_of_0 ++ []
theorem dksX3_of_0 : cX3_of.data.toList.drop 0 = dktX3_of_0 := by decide +kernel
theorem dX3_of_0 : decode cX3_of 0 = .ok (.iload_n 1, 1) := dk_27 (dk_at dksX3_of_0 0 rfl rfl)
theorem dX3_of_1 : decode cX3_of 1 = .ok (.iconst (-1), 1) := dk_2 (dk_at dksX3_of_0 1 rfl rfl)
theorem dX3_of_2 : decode cX3_of 2 = .ok (.if_icmp .ne 7, 3) := dk_160 0 7 (dk_at dksX3_of_0 2 rfl rfl)
theorem dX3_of_5 : decode cX3_of 5 = .ok (.aconst_null, 1) := dk_1 (dk_at dksX3_of_0 5 rfl rfl)
theorem dX3_of_6 : decode cX3_of 6 = .ok (.goto 9, 3) := dk_167 0 9 (dk_at dksX3_of_0 6 rfl rfl)
theorem dX3_of_9 : decode cX3_of 9 = .ok (.aload_n 0, 1) := dk_42 (dk_at dksX3_of_0 9 rfl rfl)
theorem dX3_of_10 : decode cX3_of 10 = .ok (.getfield 30, 3) := dk_180 0 30 (dk_at dksX3_of_0 10 rfl rfl)
theorem dX3_of_13 : decode cX3_of 13 = .ok (.iload_n 1, 1) := dk_27 (dk_at dksX3_of_0 13 rfl rfl)
theorem dX3_of_14 : decode cX3_of 14 = .ok (.aaload, 1) := dk_50 (dk_at dksX3_of_0 14 rfl rfl)
theorem dX3_of_15 : decode cX3_of 15 = .ok (.areturn, 1) := dk_176 (dk_at dksX3_of_0 15 rfl rfl)
abbrev cX3_mayMany : ByteArray := prog_16_method_6_code
def yX3_mayMany : MethodName := ⟨RX3, "mayMany", "()I"⟩
def dkwX3_mayMany_1 : List UInt8 := [167, 0, 4, 3, 96, 60, 132, 2, 1, 167, 255, 229, 27, 172]
abbrev dktX3_mayMany_1 : List UInt8 := dkwX3_mayMany_1 ++ []
def dkwX3_mayMany_0 : List UInt8 := [3, 60, 3, 61, 28, 42, 180, 0, 48, 162, 0, 25, 27, 42, 28, 182, 0, 73, 153, 0, 7, 4]
abbrev dktX3_mayMany_0 : List UInt8 := dkwX3_mayMany_0 ++ dktX3_mayMany_1
theorem dksX3_mayMany_0 : cX3_mayMany.data.toList.drop 0 = dktX3_mayMany_0 := by decide +kernel
theorem dksX3_mayMany_1 : cX3_mayMany.data.toList.drop 22 = dktX3_mayMany_1 := dk_seg dksX3_mayMany_0 22 rfl rfl
theorem dX3_mayMany_0 : decode cX3_mayMany 0 = .ok (.iconst 0, 1) := dk_3 (dk_at dksX3_mayMany_0 0 rfl rfl)
theorem dX3_mayMany_1 : decode cX3_mayMany 1 = .ok (.istore_n 1, 1) := dk_60 (dk_at dksX3_mayMany_0 1 rfl rfl)
theorem dX3_mayMany_2 : decode cX3_mayMany 2 = .ok (.iconst 0, 1) := dk_3 (dk_at dksX3_mayMany_0 2 rfl rfl)
theorem dX3_mayMany_3 : decode cX3_mayMany 3 = .ok (.istore_n 2, 1) := dk_61 (dk_at dksX3_mayMany_0 3 rfl rfl)
theorem dX3_mayMany_4 : decode cX3_mayMany 4 = .ok (.iload_n 2, 1) := dk_28 (dk_at dksX3_mayMany_0 4 rfl rfl)
theorem dX3_mayMany_5 : decode cX3_mayMany 5 = .ok (.aload_n 0, 1) := dk_42 (dk_at dksX3_mayMany_0 5 rfl rfl)
theorem dX3_mayMany_6 : decode cX3_mayMany 6 = .ok (.getfield 48, 3) := dk_180 0 48 (dk_at dksX3_mayMany_0 6 rfl rfl)
theorem dX3_mayMany_9 : decode cX3_mayMany 9 = .ok (.if_icmp .ge 25, 3) := dk_162 0 25 (dk_at dksX3_mayMany_0 9 rfl rfl)
theorem dX3_mayMany_12 : decode cX3_mayMany 12 = .ok (.iload_n 1, 1) := dk_27 (dk_at dksX3_mayMany_0 12 rfl rfl)
theorem dX3_mayMany_13 : decode cX3_mayMany 13 = .ok (.aload_n 0, 1) := dk_42 (dk_at dksX3_mayMany_0 13 rfl rfl)
theorem dX3_mayMany_14 : decode cX3_mayMany 14 = .ok (.iload_n 2, 1) := dk_28 (dk_at dksX3_mayMany_0 14 rfl rfl)
theorem dX3_mayMany_15 : decode cX3_mayMany 15 = .ok (.invokevirtual 73, 3) := dk_182 0 73 (dk_at dksX3_mayMany_0 15 rfl rfl)
theorem dX3_mayMany_18 : decode cX3_mayMany 18 = .ok (.ifCond .eq 7, 3) := dk_153 0 7 (dk_at dksX3_mayMany_0 18 rfl rfl)
theorem dX3_mayMany_21 : decode cX3_mayMany 21 = .ok (.iconst 1, 1) := dk_4 (dk_at dksX3_mayMany_0 21 rfl rfl)
theorem dX3_mayMany_22 : decode cX3_mayMany 22 = .ok (.goto 4, 3) := dk_167 0 4 (dk_at dksX3_mayMany_1 0 rfl rfl)
theorem dX3_mayMany_25 : decode cX3_mayMany 25 = .ok (.iconst 0, 1) := dk_3 (dk_at dksX3_mayMany_1 3 rfl rfl)
theorem dX3_mayMany_26 : decode cX3_mayMany 26 = .ok (.iadd, 1) := dk_96 (dk_at dksX3_mayMany_1 4 rfl rfl)
theorem dX3_mayMany_27 : decode cX3_mayMany 27 = .ok (.istore_n 1, 1) := dk_60 (dk_at dksX3_mayMany_1 5 rfl rfl)
theorem dX3_mayMany_28 : decode cX3_mayMany 28 = .ok (.iinc 2 1, 3) := dk_132 2 1 (dk_at dksX3_mayMany_1 6 rfl rfl)
theorem dX3_mayMany_31 : decode cX3_mayMany 31 = .ok (.goto (-27), 3) := dk_167 255 229 (dk_at dksX3_mayMany_1 9 rfl rfl)
theorem dX3_mayMany_34 : decode cX3_mayMany 34 = .ok (.iload_n 1, 1) := dk_27 (dk_at dksX3_mayMany_1 12 rfl rfl)
theorem dX3_mayMany_35 : decode cX3_mayMany 35 = .ok (.ireturn, 1) := dk_172 (dk_at dksX3_mayMany_1 13 rfl rfl)
abbrev cX3_whose : ByteArray := prog_16_method_9_code
def yX3_whose : MethodName := ⟨RX3, "whose", "(Z)I"⟩
def dkwX3_whose_4 : List UInt8 := [153, 0, 7, 29, 167, 0, 4, 28, 61, 132, 3, 1, 167, 255, 154, 28, 172]
abbrev dktX3_whose_4 : List UInt8 := dkwX3_whose_4 ++ []
def dkwX3_whose_3 : List UInt8 := [162, 0, 7, 4, 167, 0, 4, 3, 54, 5, 21, 4, 157, 0, 13, 21, 4, 154, 0, 12, 21, 5]
abbrev dktX3_whose_3 : List UInt8 := dkwX3_whose_3 ++ dktX3_whose_4
def dkwX3_whose_2 : List UInt8 := [100, 167, 0, 4, 3, 54, 4, 28, 2, 159, 0, 22, 42, 180, 0, 38, 29, 46, 42, 180, 0, 38, 28, 46]
abbrev dktX3_whose_2 : List UInt8 := dkwX3_whose_2 ++ dktX3_whose_3
def dkwX3_whose_1 : List UInt8 := [2, 160, 0, 7, 4, 167, 0, 24, 27, 153, 0, 19, 42, 180, 0, 34, 29, 46, 42, 180, 0, 34, 28, 46]
abbrev dktX3_whose_1 : List UInt8 := dkwX3_whose_1 ++ dktX3_whose_2
def dkwX3_whose_0 : List UInt8 := [2, 61, 3, 62, 29, 42, 180, 0, 48, 162, 0, 100, 42, 29, 182, 0, 73, 154, 0, 6, 167, 0, 83, 28]
abbrev dktX3_whose_0 : List UInt8 := dkwX3_whose_0 ++ dktX3_whose_1
theorem dksX3_whose_0 : cX3_whose.data.toList.drop 0 = dktX3_whose_0 := by decide +kernel
theorem dksX3_whose_1 : cX3_whose.data.toList.drop 24 = dktX3_whose_1 := dk_seg dksX3_whose_0 24 rfl rfl
theorem dksX3_whose_2 : cX3_whose.data.toList.drop 48 = dktX3_whose_2 := dk_seg dksX3_whose_1 24 rfl rfl
theorem dksX3_whose_3 : cX3_whose.data.toList.drop 72 = dktX3_whose_3 := dk_seg dksX3_whose_2 24 rfl rfl
theorem dksX3_whose_4 : cX3_whose.data.toList.drop 94 = dktX3_whose_4 := dk_seg dksX3_whose_3 22 rfl rfl
theorem dX3_whose_0 : decode cX3_whose 0 = .ok (.iconst (-1), 1) := dk_2 (dk_at dksX3_whose_0 0 rfl rfl)
theorem dX3_whose_1 : decode cX3_whose 1 = .ok (.istore_n 2, 1) := dk_61 (dk_at dksX3_whose_0 1 rfl rfl)
theorem dX3_whose_2 : decode cX3_whose 2 = .ok (.iconst 0, 1) := dk_3 (dk_at dksX3_whose_0 2 rfl rfl)
theorem dX3_whose_3 : decode cX3_whose 3 = .ok (.istore_n 3, 1) := dk_62 (dk_at dksX3_whose_0 3 rfl rfl)
theorem dX3_whose_4 : decode cX3_whose 4 = .ok (.iload_n 3, 1) := dk_29 (dk_at dksX3_whose_0 4 rfl rfl)
theorem dX3_whose_5 : decode cX3_whose 5 = .ok (.aload_n 0, 1) := dk_42 (dk_at dksX3_whose_0 5 rfl rfl)
theorem dX3_whose_6 : decode cX3_whose 6 = .ok (.getfield 48, 3) := dk_180 0 48 (dk_at dksX3_whose_0 6 rfl rfl)
theorem dX3_whose_9 : decode cX3_whose 9 = .ok (.if_icmp .ge 100, 3) := dk_162 0 100 (dk_at dksX3_whose_0 9 rfl rfl)
theorem dX3_whose_12 : decode cX3_whose 12 = .ok (.aload_n 0, 1) := dk_42 (dk_at dksX3_whose_0 12 rfl rfl)
theorem dX3_whose_13 : decode cX3_whose 13 = .ok (.iload_n 3, 1) := dk_29 (dk_at dksX3_whose_0 13 rfl rfl)
theorem dX3_whose_14 : decode cX3_whose 14 = .ok (.invokevirtual 73, 3) := dk_182 0 73 (dk_at dksX3_whose_0 14 rfl rfl)
theorem dX3_whose_17 : decode cX3_whose 17 = .ok (.ifCond .ne 6, 3) := dk_154 0 6 (dk_at dksX3_whose_0 17 rfl rfl)
theorem dX3_whose_20 : decode cX3_whose 20 = .ok (.goto 83, 3) := dk_167 0 83 (dk_at dksX3_whose_0 20 rfl rfl)
theorem dX3_whose_23 : decode cX3_whose 23 = .ok (.iload_n 2, 1) := dk_28 (dk_at dksX3_whose_0 23 rfl rfl)
theorem dX3_whose_24 : decode cX3_whose 24 = .ok (.iconst (-1), 1) := dk_2 (dk_at dksX3_whose_1 0 rfl rfl)
theorem dX3_whose_25 : decode cX3_whose 25 = .ok (.if_icmp .ne 7, 3) := dk_160 0 7 (dk_at dksX3_whose_1 1 rfl rfl)
theorem dX3_whose_28 : decode cX3_whose 28 = .ok (.iconst 1, 1) := dk_4 (dk_at dksX3_whose_1 4 rfl rfl)
theorem dX3_whose_29 : decode cX3_whose 29 = .ok (.goto 24, 3) := dk_167 0 24 (dk_at dksX3_whose_1 5 rfl rfl)
theorem dX3_whose_32 : decode cX3_whose 32 = .ok (.iload_n 1, 1) := dk_27 (dk_at dksX3_whose_1 8 rfl rfl)
theorem dX3_whose_33 : decode cX3_whose 33 = .ok (.ifCond .eq 19, 3) := dk_153 0 19 (dk_at dksX3_whose_1 9 rfl rfl)
theorem dX3_whose_36 : decode cX3_whose 36 = .ok (.aload_n 0, 1) := dk_42 (dk_at dksX3_whose_1 12 rfl rfl)
theorem dX3_whose_37 : decode cX3_whose 37 = .ok (.getfield 34, 3) := dk_180 0 34 (dk_at dksX3_whose_1 13 rfl rfl)
theorem dX3_whose_40 : decode cX3_whose 40 = .ok (.iload_n 3, 1) := dk_29 (dk_at dksX3_whose_1 16 rfl rfl)
theorem dX3_whose_41 : decode cX3_whose 41 = .ok (.iaload, 1) := dk_46 (dk_at dksX3_whose_1 17 rfl rfl)
theorem dX3_whose_42 : decode cX3_whose 42 = .ok (.aload_n 0, 1) := dk_42 (dk_at dksX3_whose_1 18 rfl rfl)
theorem dX3_whose_43 : decode cX3_whose 43 = .ok (.getfield 34, 3) := dk_180 0 34 (dk_at dksX3_whose_1 19 rfl rfl)
theorem dX3_whose_46 : decode cX3_whose 46 = .ok (.iload_n 2, 1) := dk_28 (dk_at dksX3_whose_1 22 rfl rfl)
theorem dX3_whose_47 : decode cX3_whose 47 = .ok (.iaload, 1) := dk_46 (dk_at dksX3_whose_1 23 rfl rfl)
theorem dX3_whose_48 : decode cX3_whose 48 = .ok (.isub, 1) := dk_100 (dk_at dksX3_whose_2 0 rfl rfl)
theorem dX3_whose_49 : decode cX3_whose 49 = .ok (.goto 4, 3) := dk_167 0 4 (dk_at dksX3_whose_2 1 rfl rfl)
theorem dX3_whose_52 : decode cX3_whose 52 = .ok (.iconst 0, 1) := dk_3 (dk_at dksX3_whose_2 4 rfl rfl)
theorem dX3_whose_53 : decode cX3_whose 53 = .ok (.istore 4, 2) := dk_54 4 (dk_at dksX3_whose_2 5 rfl rfl)
theorem dX3_whose_55 : decode cX3_whose 55 = .ok (.iload_n 2, 1) := dk_28 (dk_at dksX3_whose_2 7 rfl rfl)
theorem dX3_whose_56 : decode cX3_whose 56 = .ok (.iconst (-1), 1) := dk_2 (dk_at dksX3_whose_2 8 rfl rfl)
theorem dX3_whose_57 : decode cX3_whose 57 = .ok (.if_icmp .eq 22, 3) := dk_159 0 22 (dk_at dksX3_whose_2 9 rfl rfl)
theorem dX3_whose_60 : decode cX3_whose 60 = .ok (.aload_n 0, 1) := dk_42 (dk_at dksX3_whose_2 12 rfl rfl)
theorem dX3_whose_61 : decode cX3_whose 61 = .ok (.getfield 38, 3) := dk_180 0 38 (dk_at dksX3_whose_2 13 rfl rfl)
theorem dX3_whose_64 : decode cX3_whose 64 = .ok (.iload_n 3, 1) := dk_29 (dk_at dksX3_whose_2 16 rfl rfl)
theorem dX3_whose_65 : decode cX3_whose 65 = .ok (.iaload, 1) := dk_46 (dk_at dksX3_whose_2 17 rfl rfl)
theorem dX3_whose_66 : decode cX3_whose 66 = .ok (.aload_n 0, 1) := dk_42 (dk_at dksX3_whose_2 18 rfl rfl)
theorem dX3_whose_67 : decode cX3_whose 67 = .ok (.getfield 38, 3) := dk_180 0 38 (dk_at dksX3_whose_2 19 rfl rfl)
theorem dX3_whose_70 : decode cX3_whose 70 = .ok (.iload_n 2, 1) := dk_28 (dk_at dksX3_whose_2 22 rfl rfl)
theorem dX3_whose_71 : decode cX3_whose 71 = .ok (.iaload, 1) := dk_46 (dk_at dksX3_whose_2 23 rfl rfl)
theorem dX3_whose_72 : decode cX3_whose 72 = .ok (.if_icmp .ge 7, 3) := dk_162 0 7 (dk_at dksX3_whose_3 0 rfl rfl)
theorem dX3_whose_75 : decode cX3_whose 75 = .ok (.iconst 1, 1) := dk_4 (dk_at dksX3_whose_3 3 rfl rfl)
theorem dX3_whose_76 : decode cX3_whose 76 = .ok (.goto 4, 3) := dk_167 0 4 (dk_at dksX3_whose_3 4 rfl rfl)
theorem dX3_whose_79 : decode cX3_whose 79 = .ok (.iconst 0, 1) := dk_3 (dk_at dksX3_whose_3 7 rfl rfl)
theorem dX3_whose_80 : decode cX3_whose 80 = .ok (.istore 5, 2) := dk_54 5 (dk_at dksX3_whose_3 8 rfl rfl)
theorem dX3_whose_82 : decode cX3_whose 82 = .ok (.iload 4, 2) := dk_21 4 (dk_at dksX3_whose_3 10 rfl rfl)
theorem dX3_whose_84 : decode cX3_whose 84 = .ok (.ifCond .gt 13, 3) := dk_157 0 13 (dk_at dksX3_whose_3 12 rfl rfl)
theorem dX3_whose_87 : decode cX3_whose 87 = .ok (.iload 4, 2) := dk_21 4 (dk_at dksX3_whose_3 15 rfl rfl)
theorem dX3_whose_89 : decode cX3_whose 89 = .ok (.ifCond .ne 12, 3) := dk_154 0 12 (dk_at dksX3_whose_3 17 rfl rfl)
theorem dX3_whose_92 : decode cX3_whose 92 = .ok (.iload 5, 2) := dk_21 5 (dk_at dksX3_whose_3 20 rfl rfl)
theorem dX3_whose_94 : decode cX3_whose 94 = .ok (.ifCond .eq 7, 3) := dk_153 0 7 (dk_at dksX3_whose_4 0 rfl rfl)
theorem dX3_whose_97 : decode cX3_whose 97 = .ok (.iload_n 3, 1) := dk_29 (dk_at dksX3_whose_4 3 rfl rfl)
theorem dX3_whose_98 : decode cX3_whose 98 = .ok (.goto 4, 3) := dk_167 0 4 (dk_at dksX3_whose_4 4 rfl rfl)
theorem dX3_whose_101 : decode cX3_whose 101 = .ok (.iload_n 2, 1) := dk_28 (dk_at dksX3_whose_4 7 rfl rfl)
theorem dX3_whose_102 : decode cX3_whose 102 = .ok (.istore_n 2, 1) := dk_61 (dk_at dksX3_whose_4 8 rfl rfl)
theorem dX3_whose_103 : decode cX3_whose 103 = .ok (.iinc 3 1, 3) := dk_132 3 1 (dk_at dksX3_whose_4 9 rfl rfl)
theorem dX3_whose_106 : decode cX3_whose 106 = .ok (.goto (-102), 3) := dk_167 255 154 (dk_at dksX3_whose_4 12 rfl rfl)
theorem dX3_whose_109 : decode cX3_whose 109 = .ok (.iload_n 2, 1) := dk_28 (dk_at dksX3_whose_4 15 rfl rfl)
theorem dX3_whose_110 : decode cX3_whose 110 = .ok (.ireturn, 1) := dk_172 (dk_at dksX3_whose_4 16 rfl rfl)
abbrev cX3_goesDraw : ByteArray := prog_16_method_13_code
def yX3_goesDraw : MethodName := ⟨RX3, "goesDraw", "()Z"⟩
def dkwX3_goesDraw_1 : List UInt8 := [28, 182, 0, 99, 182, 0, 102, 2, 159, 0, 7, 4, 167, 0, 4, 3, 172]
abbrev dktX3_goesDraw_1 : List UInt8 := dkwX3_goesDraw_1 ++ []
def dkwX3_goesDraw_0 : List UInt8 := [42, 182, 0, 92, 60, 42, 27, 4, 96, 182, 0, 95, 61, 42, 28, 27, 160, 0, 7, 2, 167, 0, 8, 42]
abbrev dktX3_goesDraw_0 : List UInt8 := dkwX3_goesDraw_0 ++ dktX3_goesDraw_1
theorem dksX3_goesDraw_0 : cX3_goesDraw.data.toList.drop 0 = dktX3_goesDraw_0 := by decide +kernel
theorem dksX3_goesDraw_1 : cX3_goesDraw.data.toList.drop 24 = dktX3_goesDraw_1 := dk_seg dksX3_goesDraw_0 24 rfl rfl
theorem dX3_goesDraw_0 : decode cX3_goesDraw 0 = .ok (.aload_n 0, 1) := dk_42 (dk_at dksX3_goesDraw_0 0 rfl rfl)
theorem dX3_goesDraw_1 : decode cX3_goesDraw 1 = .ok (.invokevirtual 92, 3) := dk_182 0 92 (dk_at dksX3_goesDraw_0 1 rfl rfl)
theorem dX3_goesDraw_4 : decode cX3_goesDraw 4 = .ok (.istore_n 1, 1) := dk_60 (dk_at dksX3_goesDraw_0 4 rfl rfl)
theorem dX3_goesDraw_5 : decode cX3_goesDraw 5 = .ok (.aload_n 0, 1) := dk_42 (dk_at dksX3_goesDraw_0 5 rfl rfl)
theorem dX3_goesDraw_6 : decode cX3_goesDraw 6 = .ok (.iload_n 1, 1) := dk_27 (dk_at dksX3_goesDraw_0 6 rfl rfl)
theorem dX3_goesDraw_7 : decode cX3_goesDraw 7 = .ok (.iconst 1, 1) := dk_4 (dk_at dksX3_goesDraw_0 7 rfl rfl)
theorem dX3_goesDraw_8 : decode cX3_goesDraw 8 = .ok (.iadd, 1) := dk_96 (dk_at dksX3_goesDraw_0 8 rfl rfl)
theorem dX3_goesDraw_9 : decode cX3_goesDraw 9 = .ok (.invokevirtual 95, 3) := dk_182 0 95 (dk_at dksX3_goesDraw_0 9 rfl rfl)
theorem dX3_goesDraw_12 : decode cX3_goesDraw 12 = .ok (.istore_n 2, 1) := dk_61 (dk_at dksX3_goesDraw_0 12 rfl rfl)
theorem dX3_goesDraw_13 : decode cX3_goesDraw 13 = .ok (.aload_n 0, 1) := dk_42 (dk_at dksX3_goesDraw_0 13 rfl rfl)
theorem dX3_goesDraw_14 : decode cX3_goesDraw 14 = .ok (.iload_n 2, 1) := dk_28 (dk_at dksX3_goesDraw_0 14 rfl rfl)
theorem dX3_goesDraw_15 : decode cX3_goesDraw 15 = .ok (.iload_n 1, 1) := dk_27 (dk_at dksX3_goesDraw_0 15 rfl rfl)
theorem dX3_goesDraw_16 : decode cX3_goesDraw 16 = .ok (.if_icmp .ne 7, 3) := dk_160 0 7 (dk_at dksX3_goesDraw_0 16 rfl rfl)
theorem dX3_goesDraw_19 : decode cX3_goesDraw 19 = .ok (.iconst (-1), 1) := dk_2 (dk_at dksX3_goesDraw_0 19 rfl rfl)
theorem dX3_goesDraw_20 : decode cX3_goesDraw 20 = .ok (.goto 8, 3) := dk_167 0 8 (dk_at dksX3_goesDraw_0 20 rfl rfl)
theorem dX3_goesDraw_23 : decode cX3_goesDraw 23 = .ok (.aload_n 0, 1) := dk_42 (dk_at dksX3_goesDraw_0 23 rfl rfl)
theorem dX3_goesDraw_24 : decode cX3_goesDraw 24 = .ok (.iload_n 2, 1) := dk_28 (dk_at dksX3_goesDraw_1 0 rfl rfl)
theorem dX3_goesDraw_25 : decode cX3_goesDraw 25 = .ok (.invokevirtual 99, 3) := dk_182 0 99 (dk_at dksX3_goesDraw_1 1 rfl rfl)
theorem dX3_goesDraw_28 : decode cX3_goesDraw 28 = .ok (.invokevirtual 102, 3) := dk_182 0 102 (dk_at dksX3_goesDraw_1 4 rfl rfl)
theorem dX3_goesDraw_31 : decode cX3_goesDraw 31 = .ok (.iconst (-1), 1) := dk_2 (dk_at dksX3_goesDraw_1 7 rfl rfl)
theorem dX3_goesDraw_32 : decode cX3_goesDraw 32 = .ok (.if_icmp .eq 7, 3) := dk_159 0 7 (dk_at dksX3_goesDraw_1 8 rfl rfl)
theorem dX3_goesDraw_35 : decode cX3_goesDraw 35 = .ok (.iconst 1, 1) := dk_4 (dk_at dksX3_goesDraw_1 11 rfl rfl)
theorem dX3_goesDraw_36 : decode cX3_goesDraw 36 = .ok (.goto 4, 3) := dk_167 0 4 (dk_at dksX3_goesDraw_1 12 rfl rfl)
theorem dX3_goesDraw_39 : decode cX3_goesDraw 39 = .ok (.iconst 0, 1) := dk_3 (dk_at dksX3_goesDraw_1 15 rfl rfl)
theorem dX3_goesDraw_40 : decode cX3_goesDraw 40 = .ok (.ireturn, 1) := dk_172 (dk_at dksX3_goesDraw_1 16 rfl rfl)
abbrev cX3_draw : ByteArray := prog_16_method_12_code
def yX3_draw : MethodName := ⟨RX3, "draw", "(I)I"⟩
def dkwX3_draw_1 : List UInt8 := [172]
abbrev dktX3_draw_1 : List UInt8 := dkwX3_draw_1 ++ []
def dkwX3_draw_0 : List UInt8 := [42, 42, 180, 0, 18, 18, 91, 104, 17, 48, 57, 96, 181, 0, 18, 42, 180, 0, 18, 16, 16, 124, 27, 112]
abbrev dktX3_draw_0 : List UInt8 := dkwX3_draw_0 ++ dktX3_draw_1
theorem dksX3_draw_0 : cX3_draw.data.toList.drop 0 = dktX3_draw_0 := by decide +kernel
theorem dksX3_draw_1 : cX3_draw.data.toList.drop 24 = dktX3_draw_1 := dk_seg dksX3_draw_0 24 rfl rfl
theorem dX3_draw_0 : decode cX3_draw 0 = .ok (.aload_n 0, 1) := dk_42 (dk_at dksX3_draw_0 0 rfl rfl)
theorem dX3_draw_1 : decode cX3_draw 1 = .ok (.aload_n 0, 1) := dk_42 (dk_at dksX3_draw_0 1 rfl rfl)
theorem dX3_draw_2 : decode cX3_draw 2 = .ok (.getfield 18, 3) := dk_180 0 18 (dk_at dksX3_draw_0 2 rfl rfl)
theorem dX3_draw_5 : decode cX3_draw 5 = .ok (.ldc 91, 2) := dk_18 91 (dk_at dksX3_draw_0 5 rfl rfl)
theorem dX3_draw_7 : decode cX3_draw 7 = .ok (.imul, 1) := dk_104 (dk_at dksX3_draw_0 7 rfl rfl)
theorem dX3_draw_8 : decode cX3_draw 8 = .ok (.sipush 12345, 3) := dk_17 48 57 (dk_at dksX3_draw_0 8 rfl rfl)
theorem dX3_draw_11 : decode cX3_draw 11 = .ok (.iadd, 1) := dk_96 (dk_at dksX3_draw_0 11 rfl rfl)
theorem dX3_draw_12 : decode cX3_draw 12 = .ok (.putfield 18, 3) := dk_181 0 18 (dk_at dksX3_draw_0 12 rfl rfl)
theorem dX3_draw_15 : decode cX3_draw 15 = .ok (.aload_n 0, 1) := dk_42 (dk_at dksX3_draw_0 15 rfl rfl)
theorem dX3_draw_16 : decode cX3_draw 16 = .ok (.getfield 18, 3) := dk_180 0 18 (dk_at dksX3_draw_0 16 rfl rfl)
theorem dX3_draw_19 : decode cX3_draw 19 = .ok (.bipush 16, 2) := dk_16 16 (dk_at dksX3_draw_0 19 rfl rfl)
theorem dX3_draw_21 : decode cX3_draw 21 = .ok (.iushr, 1) := dk_124 (dk_at dksX3_draw_0 21 rfl rfl)
theorem dX3_draw_22 : decode cX3_draw 22 = .ok (.iload_n 1, 1) := dk_27 (dk_at dksX3_draw_0 22 rfl rfl)
theorem dX3_draw_23 : decode cX3_draw 23 = .ok (.irem, 1) := dk_112 (dk_at dksX3_draw_0 23 rfl rfl)
theorem dX3_draw_24 : decode cX3_draw 24 = .ok (.ireturn, 1) := dk_172 (dk_at dksX3_draw_1 0 rfl rfl)
abbrev cX3_mayAt : ByteArray := prog_16_method_7_code
def yX3_mayAt : MethodName := ⟨RX3, "mayAt", "(I)I"⟩
def dkwX3_mayAt_1 : List UInt8 := [167, 255, 238, 29, 172]
abbrev dktX3_mayAt_1 : List UInt8 := dkwX3_mayAt_1 ++ []
def dkwX3_mayAt_0 : List UInt8 := [27, 61, 3, 62, 42, 29, 182, 0, 73, 153, 0, 10, 28, 132, 2, 255, 158, 0, 9, 132, 3, 1]
abbrev dktX3_mayAt_0 : List UInt8 := dkwX3_mayAt_0 ++ dktX3_mayAt_1
theorem dksX3_mayAt_0 : cX3_mayAt.data.toList.drop 0 = dktX3_mayAt_0 := by decide +kernel
theorem dksX3_mayAt_1 : cX3_mayAt.data.toList.drop 22 = dktX3_mayAt_1 := dk_seg dksX3_mayAt_0 22 rfl rfl
theorem dX3_mayAt_0 : decode cX3_mayAt 0 = .ok (.iload_n 1, 1) := dk_27 (dk_at dksX3_mayAt_0 0 rfl rfl)
theorem dX3_mayAt_1 : decode cX3_mayAt 1 = .ok (.istore_n 2, 1) := dk_61 (dk_at dksX3_mayAt_0 1 rfl rfl)
theorem dX3_mayAt_2 : decode cX3_mayAt 2 = .ok (.iconst 0, 1) := dk_3 (dk_at dksX3_mayAt_0 2 rfl rfl)
theorem dX3_mayAt_3 : decode cX3_mayAt 3 = .ok (.istore_n 3, 1) := dk_62 (dk_at dksX3_mayAt_0 3 rfl rfl)
theorem dX3_mayAt_4 : decode cX3_mayAt 4 = .ok (.aload_n 0, 1) := dk_42 (dk_at dksX3_mayAt_0 4 rfl rfl)
theorem dX3_mayAt_5 : decode cX3_mayAt 5 = .ok (.iload_n 3, 1) := dk_29 (dk_at dksX3_mayAt_0 5 rfl rfl)
theorem dX3_mayAt_6 : decode cX3_mayAt 6 = .ok (.invokevirtual 73, 3) := dk_182 0 73 (dk_at dksX3_mayAt_0 6 rfl rfl)
theorem dX3_mayAt_9 : decode cX3_mayAt 9 = .ok (.ifCond .eq 10, 3) := dk_153 0 10 (dk_at dksX3_mayAt_0 9 rfl rfl)
theorem dX3_mayAt_12 : decode cX3_mayAt 12 = .ok (.iload_n 2, 1) := dk_28 (dk_at dksX3_mayAt_0 12 rfl rfl)
theorem dX3_mayAt_13 : decode cX3_mayAt 13 = .ok (.iinc 2 (-1), 3) := dk_132 2 255 (dk_at dksX3_mayAt_0 13 rfl rfl)
theorem dX3_mayAt_16 : decode cX3_mayAt 16 = .ok (.ifCond .le 9, 3) := dk_158 0 9 (dk_at dksX3_mayAt_0 16 rfl rfl)
theorem dX3_mayAt_19 : decode cX3_mayAt 19 = .ok (.iinc 3 1, 3) := dk_132 3 1 (dk_at dksX3_mayAt_0 19 rfl rfl)
theorem dX3_mayAt_22 : decode cX3_mayAt 22 = .ok (.goto (-18), 3) := dk_167 255 238 (dk_at dksX3_mayAt_1 0 rfl rfl)
theorem dX3_mayAt_25 : decode cX3_mayAt 25 = .ok (.iload_n 3, 1) := dk_29 (dk_at dksX3_mayAt_1 3 rfl rfl)
theorem dX3_mayAt_26 : decode cX3_mayAt 26 = .ok (.ireturn, 1) := dk_172 (dk_at dksX3_mayAt_1 4 rfl rfl)
abbrev cX3_hadSum : ByteArray := prog_16_method_10_code
def yX3_hadSum : MethodName := ⟨RX3, "hadSum", "()I"⟩
def dkwX3_hadSum_1 : List UInt8 := [167, 255, 236, 27, 172]
abbrev dktX3_hadSum_1 : List UInt8 := dkwX3_hadSum_1 ++ []
def dkwX3_hadSum_0 : List UInt8 := [3, 60, 3, 61, 28, 42, 180, 0, 48, 162, 0, 18, 27, 42, 180, 0, 38, 28, 46, 96, 60, 132, 2, 1]
abbrev dktX3_hadSum_0 : List UInt8 := dkwX3_hadSum_0 ++ dktX3_hadSum_1
theorem dksX3_hadSum_0 : cX3_hadSum.data.toList.drop 0 = dktX3_hadSum_0 := by decide +kernel
theorem dksX3_hadSum_1 : cX3_hadSum.data.toList.drop 24 = dktX3_hadSum_1 := dk_seg dksX3_hadSum_0 24 rfl rfl
theorem dX3_hadSum_0 : decode cX3_hadSum 0 = .ok (.iconst 0, 1) := dk_3 (dk_at dksX3_hadSum_0 0 rfl rfl)
theorem dX3_hadSum_1 : decode cX3_hadSum 1 = .ok (.istore_n 1, 1) := dk_60 (dk_at dksX3_hadSum_0 1 rfl rfl)
theorem dX3_hadSum_2 : decode cX3_hadSum 2 = .ok (.iconst 0, 1) := dk_3 (dk_at dksX3_hadSum_0 2 rfl rfl)
theorem dX3_hadSum_3 : decode cX3_hadSum 3 = .ok (.istore_n 2, 1) := dk_61 (dk_at dksX3_hadSum_0 3 rfl rfl)
theorem dX3_hadSum_4 : decode cX3_hadSum 4 = .ok (.iload_n 2, 1) := dk_28 (dk_at dksX3_hadSum_0 4 rfl rfl)
theorem dX3_hadSum_5 : decode cX3_hadSum 5 = .ok (.aload_n 0, 1) := dk_42 (dk_at dksX3_hadSum_0 5 rfl rfl)
theorem dX3_hadSum_6 : decode cX3_hadSum 6 = .ok (.getfield 48, 3) := dk_180 0 48 (dk_at dksX3_hadSum_0 6 rfl rfl)
theorem dX3_hadSum_9 : decode cX3_hadSum 9 = .ok (.if_icmp .ge 18, 3) := dk_162 0 18 (dk_at dksX3_hadSum_0 9 rfl rfl)
theorem dX3_hadSum_12 : decode cX3_hadSum 12 = .ok (.iload_n 1, 1) := dk_27 (dk_at dksX3_hadSum_0 12 rfl rfl)
theorem dX3_hadSum_13 : decode cX3_hadSum 13 = .ok (.aload_n 0, 1) := dk_42 (dk_at dksX3_hadSum_0 13 rfl rfl)
theorem dX3_hadSum_14 : decode cX3_hadSum 14 = .ok (.getfield 38, 3) := dk_180 0 38 (dk_at dksX3_hadSum_0 14 rfl rfl)
theorem dX3_hadSum_17 : decode cX3_hadSum 17 = .ok (.iload_n 2, 1) := dk_28 (dk_at dksX3_hadSum_0 17 rfl rfl)
theorem dX3_hadSum_18 : decode cX3_hadSum 18 = .ok (.iaload, 1) := dk_46 (dk_at dksX3_hadSum_0 18 rfl rfl)
theorem dX3_hadSum_19 : decode cX3_hadSum 19 = .ok (.iadd, 1) := dk_96 (dk_at dksX3_hadSum_0 19 rfl rfl)
theorem dX3_hadSum_20 : decode cX3_hadSum 20 = .ok (.istore_n 1, 1) := dk_60 (dk_at dksX3_hadSum_0 20 rfl rfl)
theorem dX3_hadSum_21 : decode cX3_hadSum 21 = .ok (.iinc 2 1, 3) := dk_132 2 1 (dk_at dksX3_hadSum_0 21 rfl rfl)
theorem dX3_hadSum_24 : decode cX3_hadSum 24 = .ok (.goto (-20), 3) := dk_167 255 236 (dk_at dksX3_hadSum_1 0 rfl rfl)
theorem dX3_hadSum_27 : decode cX3_hadSum 27 = .ok (.iload_n 1, 1) := dk_27 (dk_at dksX3_hadSum_1 3 rfl rfl)
theorem dX3_hadSum_28 : decode cX3_hadSum 28 = .ok (.ireturn, 1) := dk_172 (dk_at dksX3_hadSum_1 4 rfl rfl)
theorem q83 : (Jvm.Cond.initialized "HamsterWeekends$Room") ∈ lw_all := lw_g (lw_at lw_m1 4 rfl) rfl
theorem q171 : (Jvm.Cond.instantiable "HamsterWeekends$Room" (10 : Nat)) ∈ lw_all := lw_g (lw_at lw_m1 92 rfl) rfl
theorem q173 : (Jvm.Cond.instanceMethod ({ cls := "HamsterWeekends$Room", name := "<init>", desc := "()V" } : Jvm.MethodName)) ∈ lw_all := lw_g (lw_at lw_m1 94 rfl) rfl
theorem q174 : (Jvm.Cond.code ({ cls := "HamsterWeekends$Room", name := "<init>", desc := "()V" } : Jvm.MethodName) prog_16_method_1_code (1 : Nat) (Option.none : Option Jvm.ClassFile.FieldType)) ∈ lw_all := lw_g (lw_at lw_m1 95 rfl) rfl
theorem q175 : (Jvm.Cond.methodLink "HamsterWeekends$Room" (3 : Nat) ({ cls := "java/lang/Object", name := "<init>", desc := "()V" } : Jvm.MethodName)) ∈ lw_all := lw_g (lw_at lw_m1 96 rfl) rfl
theorem q176 : (Jvm.Cond.classLink "HamsterWeekends$Room" (21 : Nat) "HamsterWeekends$Pet") ∈ lw_all := lw_g (lw_at lw_m1 97 rfl) rfl
theorem q177 : (Jvm.Cond.methodLink "HamsterWeekends$Room" (23 : Nat) ({ cls := "HamsterWeekends$Pet", name := "<init>", desc := "()V" } : Jvm.MethodName)) ∈ lw_all := lw_g (lw_at lw_m1 98 rfl) rfl
theorem q178 : (Jvm.Cond.classLink "HamsterWeekends$Room" (28 : Nat) "HamsterWeekends$Home") ∈ lw_all := lw_g (lw_at lw_m1 99 rfl) rfl
theorem q180 : (Jvm.Cond.fieldLink "HamsterWeekends$Room" (48 : Nat) "HamsterWeekends$Room" "many" "I") ∈ lw_all := lw_g (lw_at lw_m1 101 rfl) rfl
theorem q183 : (Jvm.Cond.fieldLink "HamsterWeekends$Room" (9 : Nat) "HamsterWeekends$Room" "pets" "I") ∈ lw_all := lw_g (lw_at lw_m1 104 rfl) rfl
theorem q185 : (Jvm.Cond.fieldLink "HamsterWeekends$Room" (15 : Nat) "HamsterWeekends$Room" "last" "I") ∈ lw_all := lw_g (lw_at lw_m1 106 rfl) rfl
theorem q187 : (Jvm.Cond.fieldLink "HamsterWeekends$Room" (18 : Nat) "HamsterWeekends$Room" "seed" "I") ∈ lw_all := lw_g (lw_at lw_m1 108 rfl) rfl
theorem q189 : (Jvm.Cond.fieldLink "HamsterWeekends$Room" (24 : Nat) "HamsterWeekends$Room" "pet" "LHamsterWeekends$Pet;") ∈ lw_all := lw_g (lw_at lw_m1 110 rfl) rfl
theorem q192 : (Jvm.Cond.fieldLink "HamsterWeekends$Room" (30 : Nat) "HamsterWeekends$Room" "homes" "[LHamsterWeekends$Home;") ∈ lw_all := lw_g (lw_at lw_m1 113 rfl) rfl
theorem q194 : (Jvm.Cond.fieldLink "HamsterWeekends$Room" (34 : Nat) "HamsterWeekends$Room" "marks" "[I") ∈ lw_all := lw_g (lw_at lw_m1 115 rfl) rfl
theorem q197 : (Jvm.Cond.fieldLink "HamsterWeekends$Room" (38 : Nat) "HamsterWeekends$Room" "had" "[I") ∈ lw_all := lw_g (lw_at lw_m1 118 rfl) rfl
theorem q200 : (Jvm.Cond.fieldLink "HamsterWeekends$Room" (41 : Nat) "HamsterWeekends$Room" "allergic" "[Z") ∈ lw_all := lw_g (lw_at lw_m1 121 rfl) rfl
theorem q203 : (Jvm.Cond.fieldLink "HamsterWeekends$Room" (45 : Nat) "HamsterWeekends$Room" "deaths" "[I") ∈ lw_all := lw_g (lw_at lw_m1 124 rfl) rfl
theorem q205 : (Jvm.Cond.lays "HamsterWeekends$Room" "HamsterWeekends$Room" "many" "I") ∈ lw_all := lw_g (lw_at lw_m1 126 rfl) rfl
theorem q206 : (Jvm.Cond.soleField "HamsterWeekends$Room" "many") ∈ lw_all := lw_g (lw_at lw_m1 127 rfl) rfl
theorem q207 : (Jvm.Cond.lays "HamsterWeekends$Room" "HamsterWeekends$Room" "pets" "I") ∈ lw_all := lw_g (lw_at lw_m1 128 rfl) rfl
theorem q208 : (Jvm.Cond.soleField "HamsterWeekends$Room" "pets") ∈ lw_all := lw_g (lw_at lw_m1 129 rfl) rfl
theorem q209 : (Jvm.Cond.lays "HamsterWeekends$Room" "HamsterWeekends$Room" "last" "I") ∈ lw_all := lw_g (lw_at lw_m1 130 rfl) rfl
theorem q210 : (Jvm.Cond.soleField "HamsterWeekends$Room" "last") ∈ lw_all := lw_g (lw_at lw_m1 131 rfl) rfl
theorem q211 : (Jvm.Cond.lays "HamsterWeekends$Room" "HamsterWeekends$Room" "seed" "I") ∈ lw_all := lw_g (lw_at lw_m1 132 rfl) rfl
theorem q212 : (Jvm.Cond.soleField "HamsterWeekends$Room" "seed") ∈ lw_all := lw_g (lw_at lw_m1 133 rfl) rfl
theorem q213 : (Jvm.Cond.laysFinal "HamsterWeekends$Room" "HamsterWeekends$Room" "pet" "LHamsterWeekends$Pet;") ∈ lw_all := lw_g (lw_at lw_m1 134 rfl) rfl
theorem q214 : (Jvm.Cond.soleField "HamsterWeekends$Room" "pet") ∈ lw_all := lw_g (lw_at lw_m1 135 rfl) rfl
theorem q215 : (Jvm.Cond.laysFinal "HamsterWeekends$Room" "HamsterWeekends$Room" "homes" "[LHamsterWeekends$Home;") ∈ lw_all := lw_g (lw_at lw_m1 136 rfl) rfl
theorem q216 : (Jvm.Cond.soleField "HamsterWeekends$Room" "homes") ∈ lw_all := lw_g (lw_at lw_m1 137 rfl) rfl
theorem q217 : (Jvm.Cond.laysFinal "HamsterWeekends$Room" "HamsterWeekends$Room" "marks" "[I") ∈ lw_all := lw_g (lw_at lw_m1 138 rfl) rfl
theorem q218 : (Jvm.Cond.soleField "HamsterWeekends$Room" "marks") ∈ lw_all := lw_g (lw_at lw_m1 139 rfl) rfl
theorem q219 : (Jvm.Cond.laysFinal "HamsterWeekends$Room" "HamsterWeekends$Room" "had" "[I") ∈ lw_all := lw_g (lw_at lw_m1 140 rfl) rfl
theorem q220 : (Jvm.Cond.soleField "HamsterWeekends$Room" "had") ∈ lw_all := lw_g (lw_at lw_m1 141 rfl) rfl
theorem q221 : (Jvm.Cond.laysFinal "HamsterWeekends$Room" "HamsterWeekends$Room" "allergic" "[Z") ∈ lw_all := lw_g (lw_at lw_m1 142 rfl) rfl
theorem q222 : (Jvm.Cond.soleField "HamsterWeekends$Room" "allergic") ∈ lw_all := lw_g (lw_at lw_m1 143 rfl) rfl
theorem q223 : (Jvm.Cond.laysFinal "HamsterWeekends$Room" "HamsterWeekends$Room" "deaths" "[I") ∈ lw_all := lw_g (lw_at lw_m1 144 rfl) rfl
theorem q224 : (Jvm.Cond.soleField "HamsterWeekends$Room" "deaths") ∈ lw_all := lw_g (lw_at lw_m1 145 rfl) rfl
theorem q225 : (Jvm.Cond.superclass "HamsterWeekends$Room" "java/lang/Object") ∈ lw_all := lw_g (lw_at lw_m1 146 rfl) rfl
theorem q582 : (Jvm.Cond.instanceMethod ({ cls := "HamsterWeekends$Room", name := "isHome", desc := "(I)Z" } : Jvm.MethodName)) ∈ lw_all := lw_g (lw_at lw_m3 23 rfl) rfl
theorem q583 : (Jvm.Cond.selects "HamsterWeekends$Room" ({ cls := "HamsterWeekends$Room", name := "isHome", desc := "(I)Z" } : Jvm.MethodName) ({ cls := "HamsterWeekends$Room", name := "isHome", desc := "(I)Z" } : Jvm.MethodName)) ∈ lw_all := lw_g (lw_at lw_m3 24 rfl) rfl
theorem q584 : (Jvm.Cond.code ({ cls := "HamsterWeekends$Room", name := "isHome", desc := "(I)Z" } : Jvm.MethodName) prog_16_method_4_code (2 : Nat) (Option.some Jvm.ClassFile.FieldType.boolean)) ∈ lw_all := lw_g (lw_at lw_m3 25 rfl) rfl
theorem q585 : (Jvm.Cond.methodLink "HamsterWeekends$Room" (65 : Nat) ({ cls := "HamsterWeekends", name := "in", desc := "(JJJ)Z" } : Jvm.MethodName)) ∈ lw_all := lw_g (lw_at lw_m3 26 rfl) rfl
theorem q650 : (Jvm.Cond.instanceMethod ({ cls := "HamsterWeekends$Room", name := "addHome", desc := "(II)V" } : Jvm.MethodName)) ∈ lw_all := lw_g (lw_at lw_m3 91 rfl) rfl
theorem q651 : (Jvm.Cond.selects "HamsterWeekends$Room" ({ cls := "HamsterWeekends$Room", name := "addHome", desc := "(II)V" } : Jvm.MethodName) ({ cls := "HamsterWeekends$Room", name := "addHome", desc := "(II)V" } : Jvm.MethodName)) ∈ lw_all := lw_g (lw_at lw_m3 92 rfl) rfl
theorem q652 : (Jvm.Cond.code ({ cls := "HamsterWeekends$Room", name := "addHome", desc := "(II)V" } : Jvm.MethodName) prog_16_method_3_code (3 : Nat) (Option.none : Option Jvm.ClassFile.FieldType)) ∈ lw_all := lw_g (lw_at lw_m3 93 rfl) rfl
theorem q653 : (Jvm.Cond.methodLink "HamsterWeekends$Room" (61 : Nat) ({ cls := "HamsterWeekends", name := "homeOfKind", desc := "(III)LHamsterWeekends$Home;" } : Jvm.MethodName)) ∈ lw_all := lw_g (lw_at lw_m3 94 rfl) rfl
theorem q792 : (Jvm.Cond.instanceMethod ({ cls := "HamsterWeekends$Room", name := "take", desc := "(LHamsterWeekends$Room;)LHamsterWeekends$Room;" } : Jvm.MethodName)) ∈ lw_all := lw_g (lw_at lw_m3 233 rfl) rfl
theorem q793 : (Jvm.Cond.selects "HamsterWeekends$Room" ({ cls := "HamsterWeekends$Room", name := "take", desc := "(LHamsterWeekends$Room;)LHamsterWeekends$Room;" } : Jvm.MethodName) ({ cls := "HamsterWeekends$Room", name := "take", desc := "(LHamsterWeekends$Room;)LHamsterWeekends$Room;" } : Jvm.MethodName)) ∈ lw_all := lw_g (lw_at lw_m3 234 rfl) rfl
theorem q794 : (Jvm.Cond.code ({ cls := "HamsterWeekends$Room", name := "take", desc := "(LHamsterWeekends$Room;)LHamsterWeekends$Room;" } : Jvm.MethodName) prog_16_method_2_code (2 : Nat) (Option.some (Jvm.ClassFile.FieldType.object "HamsterWeekends$Room"))) ∈ lw_all := lw_g (lw_at lw_m3 235 rfl) rfl
theorem q795 : (Jvm.Cond.methodLink "HamsterWeekends$Room" (51 : Nat) ({ cls := "HamsterWeekends$Pet", name := "take", desc := "(LHamsterWeekends$Pet;)LHamsterWeekends$Pet;" } : Jvm.MethodName)) ∈ lw_all := lw_g (lw_at lw_m3 236 rfl) rfl
theorem q800 : (Jvm.Cond.methodLink "HamsterWeekends$Room" (55 : Nat) ({ cls := "java/lang/System", name := "arraycopy", desc := "(Ljava/lang/Object;ILjava/lang/Object;II)V" } : Jvm.MethodName)) ∈ lw_all := lw_g (lw_at lw_m4 1 rfl) rfl
theorem q972 : (Jvm.Cond.instanceMethod ({ cls := "HamsterWeekends$Room", name := "may", desc := "(I)Z" } : Jvm.MethodName)) ∈ lw_all := lw_g (lw_at lw_m4 173 rfl) rfl
theorem q973 : (Jvm.Cond.selects "HamsterWeekends$Room" ({ cls := "HamsterWeekends$Room", name := "may", desc := "(I)Z" } : Jvm.MethodName) ({ cls := "HamsterWeekends$Room", name := "may", desc := "(I)Z" } : Jvm.MethodName)) ∈ lw_all := lw_g (lw_at lw_m4 174 rfl) rfl
theorem q974 : (Jvm.Cond.code ({ cls := "HamsterWeekends$Room", name := "may", desc := "(I)Z" } : Jvm.MethodName) prog_16_method_5_code (2 : Nat) (Option.some Jvm.ClassFile.FieldType.boolean)) ∈ lw_all := lw_g (lw_at lw_m4 175 rfl) rfl
theorem q975 : (Jvm.Cond.methodLink "HamsterWeekends$Room" (69 : Nat) ({ cls := "HamsterWeekends$Room", name := "isHome", desc := "(I)Z" } : Jvm.MethodName)) ∈ lw_all := lw_g (lw_at lw_m4 176 rfl) rfl
theorem q977 : (Jvm.Cond.instanceMethod ({ cls := "HamsterWeekends$Room", name := "week", desc := "(I)I" } : Jvm.MethodName)) ∈ lw_all := lw_g (lw_at lw_m4 178 rfl) rfl
theorem q978 : (Jvm.Cond.selects "HamsterWeekends$Room" ({ cls := "HamsterWeekends$Room", name := "week", desc := "(I)I" } : Jvm.MethodName) ({ cls := "HamsterWeekends$Room", name := "week", desc := "(I)I" } : Jvm.MethodName)) ∈ lw_all := lw_g (lw_at lw_m4 179 rfl) rfl
theorem q979 : (Jvm.Cond.code ({ cls := "HamsterWeekends$Room", name := "week", desc := "(I)I" } : Jvm.MethodName) prog_16_method_11_code (3 : Nat) (Option.some Jvm.ClassFile.FieldType.int)) ∈ lw_all := lw_g (lw_at lw_m4 180 rfl) rfl
theorem q980 : (Jvm.Cond.methodLink "HamsterWeekends$Room" (76 : Nat) ({ cls := "HamsterWeekends$Room", name := "of", desc := "(I)LHamsterWeekends$Home;" } : Jvm.MethodName)) ∈ lw_all := lw_g (lw_at lw_m4 181 rfl) rfl
theorem q981 : (Jvm.Cond.instanceMethod ({ cls := "HamsterWeekends$Room", name := "of", desc := "(I)LHamsterWeekends$Home;" } : Jvm.MethodName)) ∈ lw_all := lw_g (lw_at lw_m4 182 rfl) rfl
theorem q982 : (Jvm.Cond.selects "HamsterWeekends$Room" ({ cls := "HamsterWeekends$Room", name := "of", desc := "(I)LHamsterWeekends$Home;" } : Jvm.MethodName) ({ cls := "HamsterWeekends$Room", name := "of", desc := "(I)LHamsterWeekends$Home;" } : Jvm.MethodName)) ∈ lw_all := lw_g (lw_at lw_m4 183 rfl) rfl
theorem q983 : (Jvm.Cond.code ({ cls := "HamsterWeekends$Room", name := "of", desc := "(I)LHamsterWeekends$Home;" } : Jvm.MethodName) prog_16_method_8_code (2 : Nat) (Option.some (Jvm.ClassFile.FieldType.object "HamsterWeekends$Home"))) ∈ lw_all := lw_g (lw_at lw_m4 184 rfl) rfl
theorem q984 : (Jvm.Cond.methodLink "HamsterWeekends$Room" (80 : Nat) ({ cls := "HamsterWeekends$Pet", name := "week", desc := "(LHamsterWeekends$Home;)V" } : Jvm.MethodName)) ∈ lw_all := lw_g (lw_at lw_m4 185 rfl) rfl
theorem q1023 : (Jvm.Cond.methodLink "HamsterWeekends$Room" (84 : Nat) ({ cls := "HamsterWeekends$Pet", name := "dies", desc := "()I" } : Jvm.MethodName)) ∈ lw_all := lw_g (lw_at lw_m4 224 rfl) rfl
theorem q1027 : (Jvm.Cond.methodLink "HamsterWeekends$Room" (88 : Nat) ({ cls := "HamsterWeekends$Pet", name := "replaced", desc := "()V" } : Jvm.MethodName)) ∈ lw_all := lw_g (lw_at lw_m4 228 rfl) rfl
theorem q1114 : (Jvm.Cond.instanceMethod ({ cls := "HamsterWeekends$Room", name := "mayMany", desc := "()I" } : Jvm.MethodName)) ∈ lw_all := lw_g (lw_at lw_m5 75 rfl) rfl
theorem q1115 : (Jvm.Cond.selects "HamsterWeekends$Room" ({ cls := "HamsterWeekends$Room", name := "mayMany", desc := "()I" } : Jvm.MethodName) ({ cls := "HamsterWeekends$Room", name := "mayMany", desc := "()I" } : Jvm.MethodName)) ∈ lw_all := lw_g (lw_at lw_m5 76 rfl) rfl
theorem q1116 : (Jvm.Cond.code ({ cls := "HamsterWeekends$Room", name := "mayMany", desc := "()I" } : Jvm.MethodName) prog_16_method_6_code (3 : Nat) (Option.some Jvm.ClassFile.FieldType.int)) ∈ lw_all := lw_g (lw_at lw_m5 77 rfl) rfl
theorem q1117 : (Jvm.Cond.methodLink "HamsterWeekends$Room" (73 : Nat) ({ cls := "HamsterWeekends$Room", name := "may", desc := "(I)Z" } : Jvm.MethodName)) ∈ lw_all := lw_g (lw_at lw_m5 78 rfl) rfl
theorem q1119 : (Jvm.Cond.instanceMethod ({ cls := "HamsterWeekends$Room", name := "whose", desc := "(Z)I" } : Jvm.MethodName)) ∈ lw_all := lw_g (lw_at lw_m5 80 rfl) rfl
theorem q1120 : (Jvm.Cond.selects "HamsterWeekends$Room" ({ cls := "HamsterWeekends$Room", name := "whose", desc := "(Z)I" } : Jvm.MethodName) ({ cls := "HamsterWeekends$Room", name := "whose", desc := "(Z)I" } : Jvm.MethodName)) ∈ lw_all := lw_g (lw_at lw_m5 81 rfl) rfl
theorem q1121 : (Jvm.Cond.code ({ cls := "HamsterWeekends$Room", name := "whose", desc := "(Z)I" } : Jvm.MethodName) prog_16_method_9_code (6 : Nat) (Option.some Jvm.ClassFile.FieldType.int)) ∈ lw_all := lw_g (lw_at lw_m5 82 rfl) rfl
theorem q1190 : (Jvm.Cond.instanceMethod ({ cls := "HamsterWeekends$Room", name := "goesDraw", desc := "()Z" } : Jvm.MethodName)) ∈ lw_all := lw_g (lw_at lw_m5 151 rfl) rfl
theorem q1191 : (Jvm.Cond.selects "HamsterWeekends$Room" ({ cls := "HamsterWeekends$Room", name := "goesDraw", desc := "()Z" } : Jvm.MethodName) ({ cls := "HamsterWeekends$Room", name := "goesDraw", desc := "()Z" } : Jvm.MethodName)) ∈ lw_all := lw_g (lw_at lw_m5 152 rfl) rfl
theorem q1192 : (Jvm.Cond.code ({ cls := "HamsterWeekends$Room", name := "goesDraw", desc := "()Z" } : Jvm.MethodName) prog_16_method_13_code (3 : Nat) (Option.some Jvm.ClassFile.FieldType.boolean)) ∈ lw_all := lw_g (lw_at lw_m5 153 rfl) rfl
theorem q1193 : (Jvm.Cond.methodLink "HamsterWeekends$Room" (92 : Nat) ({ cls := "HamsterWeekends$Room", name := "mayMany", desc := "()I" } : Jvm.MethodName)) ∈ lw_all := lw_g (lw_at lw_m5 154 rfl) rfl
theorem q1194 : (Jvm.Cond.methodLink "HamsterWeekends$Room" (95 : Nat) ({ cls := "HamsterWeekends$Room", name := "draw", desc := "(I)I" } : Jvm.MethodName)) ∈ lw_all := lw_g (lw_at lw_m5 155 rfl) rfl
theorem q1195 : (Jvm.Cond.instanceMethod ({ cls := "HamsterWeekends$Room", name := "draw", desc := "(I)I" } : Jvm.MethodName)) ∈ lw_all := lw_g (lw_at lw_m5 156 rfl) rfl
theorem q1196 : (Jvm.Cond.selects "HamsterWeekends$Room" ({ cls := "HamsterWeekends$Room", name := "draw", desc := "(I)I" } : Jvm.MethodName) ({ cls := "HamsterWeekends$Room", name := "draw", desc := "(I)I" } : Jvm.MethodName)) ∈ lw_all := lw_g (lw_at lw_m5 157 rfl) rfl
theorem q1197 : (Jvm.Cond.code ({ cls := "HamsterWeekends$Room", name := "draw", desc := "(I)I" } : Jvm.MethodName) prog_16_method_12_code (2 : Nat) (Option.some Jvm.ClassFile.FieldType.int)) ∈ lw_all := lw_g (lw_at lw_m5 158 rfl) rfl
theorem q1198 : (Jvm.Cond.constant "HamsterWeekends$Room" (91 : Nat) (1103515245 : Int32)) ∈ lw_all := lw_g (lw_at lw_m5 159 rfl) rfl
theorem q1199 : (Jvm.Cond.methodLink "HamsterWeekends$Room" (99 : Nat) ({ cls := "HamsterWeekends$Room", name := "mayAt", desc := "(I)I" } : Jvm.MethodName)) ∈ lw_all := lw_g (lw_at lw_m5 160 rfl) rfl
theorem q1200 : (Jvm.Cond.instanceMethod ({ cls := "HamsterWeekends$Room", name := "mayAt", desc := "(I)I" } : Jvm.MethodName)) ∈ lw_all := lw_g (lw_at lw_m5 161 rfl) rfl
theorem q1201 : (Jvm.Cond.selects "HamsterWeekends$Room" ({ cls := "HamsterWeekends$Room", name := "mayAt", desc := "(I)I" } : Jvm.MethodName) ({ cls := "HamsterWeekends$Room", name := "mayAt", desc := "(I)I" } : Jvm.MethodName)) ∈ lw_all := lw_g (lw_at lw_m5 162 rfl) rfl
theorem q1202 : (Jvm.Cond.code ({ cls := "HamsterWeekends$Room", name := "mayAt", desc := "(I)I" } : Jvm.MethodName) prog_16_method_7_code (4 : Nat) (Option.some Jvm.ClassFile.FieldType.int)) ∈ lw_all := lw_g (lw_at lw_m5 163 rfl) rfl
theorem q1203 : (Jvm.Cond.methodLink "HamsterWeekends$Room" (102 : Nat) ({ cls := "HamsterWeekends$Room", name := "week", desc := "(I)I" } : Jvm.MethodName)) ∈ lw_all := lw_g (lw_at lw_m5 164 rfl) rfl
theorem q1209 : (Jvm.Cond.instanceMethod ({ cls := "HamsterWeekends$Room", name := "hadSum", desc := "()I" } : Jvm.MethodName)) ∈ lw_all := lw_g (lw_at lw_m5 170 rfl) rfl
theorem q1210 : (Jvm.Cond.selects "HamsterWeekends$Room" ({ cls := "HamsterWeekends$Room", name := "hadSum", desc := "()I" } : Jvm.MethodName) ({ cls := "HamsterWeekends$Room", name := "hadSum", desc := "()I" } : Jvm.MethodName)) ∈ lw_all := lw_g (lw_at lw_m5 171 rfl) rfl
theorem q1211 : (Jvm.Cond.code ({ cls := "HamsterWeekends$Room", name := "hadSum", desc := "()I" } : Jvm.MethodName) prog_16_method_10_code (3 : Nat) (Option.some Jvm.ClassFile.FieldType.int)) ∈ lw_all := lw_g (lw_at lw_m5 172 rfl) rfl
theorem in_X3 : ∀ w ∈ wsX30, w ∈ lw_all := lw_in wsX30 [205, 207, 209, 211, 213, 215, 217, 219, 221, 223] (by decide +kernel) (by decide +kernel)

/-! HamsterWeekends$Shelf -/
set_option maxRecDepth 100000
def RX4 : String := "HamsterWeekends$Shelf"
def TX4 : u_T := fun k => match k with
  | _ => ("HamsterWeekends$Shelf", "held", "Ljava/lang/Object;", false)
def tyX4 : Nat → FieldType := fun k => match k with
  | _ => .object "java/lang/Object"
abbrev wsX40 : List Cond := u_ws RX4 TX4 1
theorem nmX4 : ∀ a, a < 1 → ∀ b, b < 1 → a ≠ b → (TX4 a).2.1 ≠ (TX4 b).2.1 := by decide +kernel
theorem tyX4_ok : ∀ k, k < 1 → parseFieldDescriptor (TX4 k).2.2.1 = some (tyX4 k) := by decide +kernel
abbrev cX4_init : ByteArray := prog_18_method_1_code
def yX4_init : MethodName := ⟨RX4, "<init>", "()V"⟩
theorem dX4_init_0 : decode cX4_init 0 = .ok (.aload_n 0, 1) := by decide +kernel
theorem dX4_init_1 : decode cX4_init 1 = .ok (.invokespecial 3, 3) := by decide +kernel
theorem dX4_init_4 : decode cX4_init 4 = .ok (.return_, 1) := by decide +kernel
abbrev cX4_row : ByteArray := prog_18_method_2_code
def yX4_row : MethodName := ⟨RX4, "row", "()LHamsterWeekends$Row;"⟩
def dkwX4_row_1 : List UInt8 := [76, 187, 0, 23, 89, 16, 254, 183, 0, 25, 191]
abbrev dktX4_row_1 : List UInt8 := dkwX4_row_1 ++ []
def dkwX4_row_0 : List UInt8 := [42, 180, 0, 9, 192, 0, 15, 76, 43, 198, 0, 7, 4, 167, 0, 4, 3, 16, 253, 184, 0, 17, 43, 176]
abbrev dktX4_row_0 : List UInt8 := dkwX4_row_0 ++ dktX4_row_1
theorem dksX4_row_0 : cX4_row.data.toList.drop 0 = dktX4_row_0 := by decide +kernel
theorem dksX4_row_1 : cX4_row.data.toList.drop 24 = dktX4_row_1 := dk_seg dksX4_row_0 24 rfl rfl
theorem dX4_row_0 : decode cX4_row 0 = .ok (.aload_n 0, 1) := dk_42 (dk_at dksX4_row_0 0 rfl rfl)
theorem dX4_row_1 : decode cX4_row 1 = .ok (.getfield 9, 3) := dk_180 0 9 (dk_at dksX4_row_0 1 rfl rfl)
theorem dX4_row_4 : decode cX4_row 4 = .ok (.checkcast 15, 3) := dk_192 0 15 (dk_at dksX4_row_0 4 rfl rfl)
theorem dX4_row_7 : decode cX4_row 7 = .ok (.astore_n 1, 1) := dk_76 (dk_at dksX4_row_0 7 rfl rfl)
theorem dX4_row_8 : decode cX4_row 8 = .ok (.aload_n 1, 1) := dk_43 (dk_at dksX4_row_0 8 rfl rfl)
theorem dX4_row_9 : decode cX4_row 9 = .ok (.ifnull 7, 3) := dk_198 0 7 (dk_at dksX4_row_0 9 rfl rfl)
theorem dX4_row_12 : decode cX4_row 12 = .ok (.iconst 1, 1) := dk_4 (dk_at dksX4_row_0 12 rfl rfl)
theorem dX4_row_13 : decode cX4_row 13 = .ok (.goto 4, 3) := dk_167 0 4 (dk_at dksX4_row_0 13 rfl rfl)
theorem dX4_row_16 : decode cX4_row 16 = .ok (.iconst 0, 1) := dk_3 (dk_at dksX4_row_0 16 rfl rfl)
theorem dX4_row_17 : decode cX4_row 17 = .ok (.bipush (-3), 2) := dk_16 253 (dk_at dksX4_row_0 17 rfl rfl)
theorem dX4_row_19 : decode cX4_row 19 = .ok (.invokestatic 17, 3) := dk_184 0 17 (dk_at dksX4_row_0 19 rfl rfl)
theorem dX4_row_22 : decode cX4_row 22 = .ok (.aload_n 1, 1) := dk_43 (dk_at dksX4_row_0 22 rfl rfl)
theorem dX4_row_23 : decode cX4_row 23 = .ok (.areturn, 1) := dk_176 (dk_at dksX4_row_0 23 rfl rfl)
theorem dX4_row_24 : decode cX4_row 24 = .ok (.astore_n 1, 1) := dk_76 (dk_at dksX4_row_1 0 rfl rfl)
theorem dX4_row_25 : decode cX4_row 25 = .ok (.new 23, 3) := dk_187 0 23 (dk_at dksX4_row_1 1 rfl rfl)
theorem dX4_row_28 : decode cX4_row 28 = .ok (.dup, 1) := dk_89 (dk_at dksX4_row_1 4 rfl rfl)
theorem dX4_row_29 : decode cX4_row 29 = .ok (.bipush (-2), 2) := dk_16 254 (dk_at dksX4_row_1 5 rfl rfl)
theorem dX4_row_31 : decode cX4_row 31 = .ok (.invokespecial 25, 3) := dk_183 0 25 (dk_at dksX4_row_1 7 rfl rfl)
theorem dX4_row_34 : decode cX4_row 34 = .ok (.athrow, 1) := dk_191 (dk_at dksX4_row_1 10 rfl rfl)
abbrev cX4_holdsHome : ByteArray := prog_18_method_3_code
def yX4_holdsHome : MethodName := ⟨RX4, "holdsHome", "()Z"⟩
def dkwX4_holdsHome_0 : List UInt8 := [42, 180, 0, 9, 193, 0, 28, 172]
abbrev dktX4_holdsHome_0 : List UInt8 := dkwX4_holdsHome_0 ++ []
theorem dksX4_holdsHome_0 : cX4_holdsHome.data.toList.drop 0 = dktX4_holdsHome_0 := by decide +kernel
theorem dX4_holdsHome_0 : decode cX4_holdsHome 0 = .ok (.aload_n 0, 1) := dk_42 (dk_at dksX4_holdsHome_0 0 rfl rfl)
theorem dX4_holdsHome_1 : decode cX4_holdsHome 1 = .ok (.getfield 9, 3) := dk_180 0 9 (dk_at dksX4_holdsHome_0 1 rfl rfl)
theorem dX4_holdsHome_4 : decode cX4_holdsHome 4 = .ok (.instanceof 28, 3) := dk_193 0 28 (dk_at dksX4_holdsHome_0 4 rfl rfl)
theorem dX4_holdsHome_7 : decode cX4_holdsHome 7 = .ok (.ireturn, 1) := dk_172 (dk_at dksX4_holdsHome_0 7 rfl rfl)
abbrev cX4_says : ByteArray := prog_18_method_4_code
def yX4_says : MethodName := ⟨RX4, "says", "(ILHamsterWeekends$Room;)I"⟩
def dkwX4_says_11 : List UInt8 := [187, 0, 23, 89, 16, 254, 183, 0, 25, 191]
abbrev dktX4_says_11 : List UInt8 := dkwX4_says_11 ++ []
def dkwX4_says_10 : List UInt8 := [46, 62, 42, 180, 0, 9, 198, 0, 7, 4, 167, 0, 4, 3, 16, 253, 184, 0, 17, 29, 172, 78]
abbrev dktX4_says_10 : List UInt8 := dkwX4_says_10 ++ dktX4_says_11
def dkwX4_says_9 : List UInt8 := [180, 0, 9, 199, 0, 7, 2, 167, 0, 18, 44, 180, 0, 56, 42, 180, 0, 9, 192, 0, 28, 180, 0, 62]
abbrev dktX4_says_9 : List UInt8 := dkwX4_says_9 ++ dktX4_says_10
def dkwX4_says_8 : List UInt8 := [199, 0, 7, 2, 167, 0, 15, 42, 180, 0, 9, 192, 0, 53, 16, 30, 182, 0, 55, 62, 167, 0, 30, 42]
abbrev dktX4_says_8 : List UInt8 := dkwX4_says_8 ++ dktX4_says_9
def dkwX4_says_7 : List UInt8 := [167, 0, 15, 42, 180, 0, 9, 192, 0, 50, 16, 10, 182, 0, 52, 62, 167, 0, 57, 42, 180, 0, 9]
abbrev dktX4_says_7 : List UInt8 := dkwX4_says_7 ++ dktX4_says_8
def dkwX4_says_6 : List UInt8 := [180, 0, 9, 192, 0, 45, 16, 30, 182, 0, 47, 62, 167, 0, 84, 42, 180, 0, 9, 199, 0, 7, 2]
abbrev dktX4_says_6 : List UInt8 := dkwX4_says_6 ++ dktX4_says_7
def dkwX4_says_5 : List UInt8 := [192, 0, 42, 182, 0, 44, 62, 167, 0, 111, 42, 180, 0, 9, 199, 0, 7, 2, 167, 0, 15, 42]
abbrev dktX4_says_5 : List UInt8 := dkwX4_says_5 ++ dktX4_says_6
def dkwX4_says_4 : List UInt8 := [182, 0, 38, 62, 167, 0, 136, 42, 180, 0, 9, 199, 0, 7, 2, 167, 0, 13, 42, 180, 0, 9]
abbrev dktX4_says_4 : List UInt8 := dkwX4_says_4 ++ dktX4_says_5
def dkwX4_says_3 : List UInt8 := [167, 0, 163, 42, 180, 0, 9, 199, 0, 7, 2, 167, 0, 15, 42, 180, 0, 9, 192, 0, 36, 16, 10]
abbrev dktX4_says_3 : List UInt8 := dkwX4_says_3 ++ dktX4_says_4
def dkwX4_says_2 : List UInt8 := [42, 180, 0, 9, 199, 0, 7, 2, 167, 0, 13, 42, 180, 0, 9, 192, 0, 30, 182, 0, 32, 62]
abbrev dktX4_says_2 : List UInt8 := dkwX4_says_2 ++ dktX4_says_3
def dkwX4_says_1 : List UInt8 := [170, 0, 0, 0, 0, 0, 197, 0, 0, 0, 1, 0, 0, 0, 6, 0, 0, 0, 39, 0, 0, 0, 64, 0, 0, 0, 91, 0, 0, 0, 116, 0, 0, 0, 143, 0, 0, 0, 170]
abbrev dktX4_says_1 : List UInt8 := dkwX4_says_1 ++ dktX4_says_2
def dkwX4_says_0 : List UInt8 := [27]
abbrev dktX4_says_0 : List UInt8 := dkwX4_says_0 ++ dktX4_says_1
theorem dksX4_says_0 : cX4_says.data.toList.drop 0 = dktX4_says_0 := by decide +kernel
theorem dksX4_says_1 : cX4_says.data.toList.drop 1 = dktX4_says_1 := dk_seg dksX4_says_0 1 rfl rfl
theorem dksX4_says_2 : cX4_says.data.toList.drop 40 = dktX4_says_2 := dk_seg dksX4_says_1 39 rfl rfl
theorem dksX4_says_3 : cX4_says.data.toList.drop 62 = dktX4_says_3 := dk_seg dksX4_says_2 22 rfl rfl
theorem dksX4_says_4 : cX4_says.data.toList.drop 85 = dktX4_says_4 := dk_seg dksX4_says_3 23 rfl rfl
theorem dksX4_says_5 : cX4_says.data.toList.drop 107 = dktX4_says_5 := dk_seg dksX4_says_4 22 rfl rfl
theorem dksX4_says_6 : cX4_says.data.toList.drop 129 = dktX4_says_6 := dk_seg dksX4_says_5 22 rfl rfl
theorem dksX4_says_7 : cX4_says.data.toList.drop 152 = dktX4_says_7 := dk_seg dksX4_says_6 23 rfl rfl
theorem dksX4_says_8 : cX4_says.data.toList.drop 175 = dktX4_says_8 := dk_seg dksX4_says_7 23 rfl rfl
theorem dksX4_says_9 : cX4_says.data.toList.drop 199 = dktX4_says_9 := dk_seg dksX4_says_8 24 rfl rfl
theorem dksX4_says_10 : cX4_says.data.toList.drop 223 = dktX4_says_10 := dk_seg dksX4_says_9 24 rfl rfl
theorem dksX4_says_11 : cX4_says.data.toList.drop 245 = dktX4_says_11 := dk_seg dksX4_says_10 22 rfl rfl
theorem dX4_says_0 : decode cX4_says 0 = .ok (.iload_n 1, 1) := dk_27 (dk_at dksX4_says_0 0 rfl rfl)
theorem dX4_says_1 : decode cX4_says 1 = .ok (.tableswitch 197 1 6 #[39, 64, 91, 116, 143, 170], 39) := by decide +kernel
theorem dX4_says_40 : decode cX4_says 40 = .ok (.aload_n 0, 1) := dk_42 (dk_at dksX4_says_2 0 rfl rfl)
theorem dX4_says_41 : decode cX4_says 41 = .ok (.getfield 9, 3) := dk_180 0 9 (dk_at dksX4_says_2 1 rfl rfl)
theorem dX4_says_44 : decode cX4_says 44 = .ok (.ifnonnull 7, 3) := dk_199 0 7 (dk_at dksX4_says_2 4 rfl rfl)
theorem dX4_says_47 : decode cX4_says 47 = .ok (.iconst (-1), 1) := dk_2 (dk_at dksX4_says_2 7 rfl rfl)
theorem dX4_says_48 : decode cX4_says 48 = .ok (.goto 13, 3) := dk_167 0 13 (dk_at dksX4_says_2 8 rfl rfl)
theorem dX4_says_51 : decode cX4_says 51 = .ok (.aload_n 0, 1) := dk_42 (dk_at dksX4_says_2 11 rfl rfl)
theorem dX4_says_52 : decode cX4_says 52 = .ok (.getfield 9, 3) := dk_180 0 9 (dk_at dksX4_says_2 12 rfl rfl)
theorem dX4_says_55 : decode cX4_says 55 = .ok (.checkcast 30, 3) := dk_192 0 30 (dk_at dksX4_says_2 15 rfl rfl)
theorem dX4_says_58 : decode cX4_says 58 = .ok (.invokevirtual 32, 3) := dk_182 0 32 (dk_at dksX4_says_2 18 rfl rfl)
theorem dX4_says_61 : decode cX4_says 61 = .ok (.istore_n 3, 1) := dk_62 (dk_at dksX4_says_2 21 rfl rfl)
theorem dX4_says_62 : decode cX4_says 62 = .ok (.goto 163, 3) := dk_167 0 163 (dk_at dksX4_says_3 0 rfl rfl)
theorem dX4_says_65 : decode cX4_says 65 = .ok (.aload_n 0, 1) := dk_42 (dk_at dksX4_says_3 3 rfl rfl)
theorem dX4_says_66 : decode cX4_says 66 = .ok (.getfield 9, 3) := dk_180 0 9 (dk_at dksX4_says_3 4 rfl rfl)
theorem dX4_says_69 : decode cX4_says 69 = .ok (.ifnonnull 7, 3) := dk_199 0 7 (dk_at dksX4_says_3 7 rfl rfl)
theorem dX4_says_72 : decode cX4_says 72 = .ok (.iconst (-1), 1) := dk_2 (dk_at dksX4_says_3 10 rfl rfl)
theorem dX4_says_73 : decode cX4_says 73 = .ok (.goto 15, 3) := dk_167 0 15 (dk_at dksX4_says_3 11 rfl rfl)
theorem dX4_says_76 : decode cX4_says 76 = .ok (.aload_n 0, 1) := dk_42 (dk_at dksX4_says_3 14 rfl rfl)
theorem dX4_says_77 : decode cX4_says 77 = .ok (.getfield 9, 3) := dk_180 0 9 (dk_at dksX4_says_3 15 rfl rfl)
theorem dX4_says_80 : decode cX4_says 80 = .ok (.checkcast 36, 3) := dk_192 0 36 (dk_at dksX4_says_3 18 rfl rfl)
theorem dX4_says_83 : decode cX4_says 83 = .ok (.bipush 10, 2) := dk_16 10 (dk_at dksX4_says_3 21 rfl rfl)
theorem dX4_says_85 : decode cX4_says 85 = .ok (.invokevirtual 38, 3) := dk_182 0 38 (dk_at dksX4_says_4 0 rfl rfl)
theorem dX4_says_88 : decode cX4_says 88 = .ok (.istore_n 3, 1) := dk_62 (dk_at dksX4_says_4 3 rfl rfl)
theorem dX4_says_89 : decode cX4_says 89 = .ok (.goto 136, 3) := dk_167 0 136 (dk_at dksX4_says_4 4 rfl rfl)
theorem dX4_says_92 : decode cX4_says 92 = .ok (.aload_n 0, 1) := dk_42 (dk_at dksX4_says_4 7 rfl rfl)
theorem dX4_says_93 : decode cX4_says 93 = .ok (.getfield 9, 3) := dk_180 0 9 (dk_at dksX4_says_4 8 rfl rfl)
theorem dX4_says_96 : decode cX4_says 96 = .ok (.ifnonnull 7, 3) := dk_199 0 7 (dk_at dksX4_says_4 11 rfl rfl)
theorem dX4_says_99 : decode cX4_says 99 = .ok (.iconst (-1), 1) := dk_2 (dk_at dksX4_says_4 14 rfl rfl)
theorem dX4_says_100 : decode cX4_says 100 = .ok (.goto 13, 3) := dk_167 0 13 (dk_at dksX4_says_4 15 rfl rfl)
theorem dX4_says_103 : decode cX4_says 103 = .ok (.aload_n 0, 1) := dk_42 (dk_at dksX4_says_4 18 rfl rfl)
theorem dX4_says_104 : decode cX4_says 104 = .ok (.getfield 9, 3) := dk_180 0 9 (dk_at dksX4_says_4 19 rfl rfl)
theorem dX4_says_107 : decode cX4_says 107 = .ok (.checkcast 42, 3) := dk_192 0 42 (dk_at dksX4_says_5 0 rfl rfl)
theorem dX4_says_110 : decode cX4_says 110 = .ok (.invokevirtual 44, 3) := dk_182 0 44 (dk_at dksX4_says_5 3 rfl rfl)
theorem dX4_says_113 : decode cX4_says 113 = .ok (.istore_n 3, 1) := dk_62 (dk_at dksX4_says_5 6 rfl rfl)
theorem dX4_says_114 : decode cX4_says 114 = .ok (.goto 111, 3) := dk_167 0 111 (dk_at dksX4_says_5 7 rfl rfl)
theorem dX4_says_117 : decode cX4_says 117 = .ok (.aload_n 0, 1) := dk_42 (dk_at dksX4_says_5 10 rfl rfl)
theorem dX4_says_118 : decode cX4_says 118 = .ok (.getfield 9, 3) := dk_180 0 9 (dk_at dksX4_says_5 11 rfl rfl)
theorem dX4_says_121 : decode cX4_says 121 = .ok (.ifnonnull 7, 3) := dk_199 0 7 (dk_at dksX4_says_5 14 rfl rfl)
theorem dX4_says_124 : decode cX4_says 124 = .ok (.iconst (-1), 1) := dk_2 (dk_at dksX4_says_5 17 rfl rfl)
theorem dX4_says_125 : decode cX4_says 125 = .ok (.goto 15, 3) := dk_167 0 15 (dk_at dksX4_says_5 18 rfl rfl)
theorem dX4_says_128 : decode cX4_says 128 = .ok (.aload_n 0, 1) := dk_42 (dk_at dksX4_says_5 21 rfl rfl)
theorem dX4_says_129 : decode cX4_says 129 = .ok (.getfield 9, 3) := dk_180 0 9 (dk_at dksX4_says_6 0 rfl rfl)
theorem dX4_says_132 : decode cX4_says 132 = .ok (.checkcast 45, 3) := dk_192 0 45 (dk_at dksX4_says_6 3 rfl rfl)
theorem dX4_says_135 : decode cX4_says 135 = .ok (.bipush 30, 2) := dk_16 30 (dk_at dksX4_says_6 6 rfl rfl)
theorem dX4_says_137 : decode cX4_says 137 = .ok (.invokevirtual 47, 3) := dk_182 0 47 (dk_at dksX4_says_6 8 rfl rfl)
theorem dX4_says_140 : decode cX4_says 140 = .ok (.istore_n 3, 1) := dk_62 (dk_at dksX4_says_6 11 rfl rfl)
theorem dX4_says_141 : decode cX4_says 141 = .ok (.goto 84, 3) := dk_167 0 84 (dk_at dksX4_says_6 12 rfl rfl)
theorem dX4_says_144 : decode cX4_says 144 = .ok (.aload_n 0, 1) := dk_42 (dk_at dksX4_says_6 15 rfl rfl)
theorem dX4_says_145 : decode cX4_says 145 = .ok (.getfield 9, 3) := dk_180 0 9 (dk_at dksX4_says_6 16 rfl rfl)
theorem dX4_says_148 : decode cX4_says 148 = .ok (.ifnonnull 7, 3) := dk_199 0 7 (dk_at dksX4_says_6 19 rfl rfl)
theorem dX4_says_151 : decode cX4_says 151 = .ok (.iconst (-1), 1) := dk_2 (dk_at dksX4_says_6 22 rfl rfl)
theorem dX4_says_152 : decode cX4_says 152 = .ok (.goto 15, 3) := dk_167 0 15 (dk_at dksX4_says_7 0 rfl rfl)
theorem dX4_says_155 : decode cX4_says 155 = .ok (.aload_n 0, 1) := dk_42 (dk_at dksX4_says_7 3 rfl rfl)
theorem dX4_says_156 : decode cX4_says 156 = .ok (.getfield 9, 3) := dk_180 0 9 (dk_at dksX4_says_7 4 rfl rfl)
theorem dX4_says_159 : decode cX4_says 159 = .ok (.checkcast 50, 3) := dk_192 0 50 (dk_at dksX4_says_7 7 rfl rfl)
theorem dX4_says_162 : decode cX4_says 162 = .ok (.bipush 10, 2) := dk_16 10 (dk_at dksX4_says_7 10 rfl rfl)
theorem dX4_says_164 : decode cX4_says 164 = .ok (.invokevirtual 52, 3) := dk_182 0 52 (dk_at dksX4_says_7 12 rfl rfl)
theorem dX4_says_167 : decode cX4_says 167 = .ok (.istore_n 3, 1) := dk_62 (dk_at dksX4_says_7 15 rfl rfl)
theorem dX4_says_168 : decode cX4_says 168 = .ok (.goto 57, 3) := dk_167 0 57 (dk_at dksX4_says_7 16 rfl rfl)
theorem dX4_says_171 : decode cX4_says 171 = .ok (.aload_n 0, 1) := dk_42 (dk_at dksX4_says_7 19 rfl rfl)
theorem dX4_says_172 : decode cX4_says 172 = .ok (.getfield 9, 3) := dk_180 0 9 (dk_at dksX4_says_7 20 rfl rfl)
theorem dX4_says_175 : decode cX4_says 175 = .ok (.ifnonnull 7, 3) := dk_199 0 7 (dk_at dksX4_says_8 0 rfl rfl)
theorem dX4_says_178 : decode cX4_says 178 = .ok (.iconst (-1), 1) := dk_2 (dk_at dksX4_says_8 3 rfl rfl)
theorem dX4_says_179 : decode cX4_says 179 = .ok (.goto 15, 3) := dk_167 0 15 (dk_at dksX4_says_8 4 rfl rfl)
theorem dX4_says_182 : decode cX4_says 182 = .ok (.aload_n 0, 1) := dk_42 (dk_at dksX4_says_8 7 rfl rfl)
theorem dX4_says_183 : decode cX4_says 183 = .ok (.getfield 9, 3) := dk_180 0 9 (dk_at dksX4_says_8 8 rfl rfl)
theorem dX4_says_186 : decode cX4_says 186 = .ok (.checkcast 53, 3) := dk_192 0 53 (dk_at dksX4_says_8 11 rfl rfl)
theorem dX4_says_189 : decode cX4_says 189 = .ok (.bipush 30, 2) := dk_16 30 (dk_at dksX4_says_8 14 rfl rfl)
theorem dX4_says_191 : decode cX4_says 191 = .ok (.invokevirtual 55, 3) := dk_182 0 55 (dk_at dksX4_says_8 16 rfl rfl)
theorem dX4_says_194 : decode cX4_says 194 = .ok (.istore_n 3, 1) := dk_62 (dk_at dksX4_says_8 19 rfl rfl)
theorem dX4_says_195 : decode cX4_says 195 = .ok (.goto 30, 3) := dk_167 0 30 (dk_at dksX4_says_8 20 rfl rfl)
theorem dX4_says_198 : decode cX4_says 198 = .ok (.aload_n 0, 1) := dk_42 (dk_at dksX4_says_8 23 rfl rfl)
theorem dX4_says_199 : decode cX4_says 199 = .ok (.getfield 9, 3) := dk_180 0 9 (dk_at dksX4_says_9 0 rfl rfl)
theorem dX4_says_202 : decode cX4_says 202 = .ok (.ifnonnull 7, 3) := dk_199 0 7 (dk_at dksX4_says_9 3 rfl rfl)
theorem dX4_says_205 : decode cX4_says 205 = .ok (.iconst (-1), 1) := dk_2 (dk_at dksX4_says_9 6 rfl rfl)
theorem dX4_says_206 : decode cX4_says 206 = .ok (.goto 18, 3) := dk_167 0 18 (dk_at dksX4_says_9 7 rfl rfl)
theorem dX4_says_209 : decode cX4_says 209 = .ok (.aload_n 2, 1) := dk_44 (dk_at dksX4_says_9 10 rfl rfl)
theorem dX4_says_210 : decode cX4_says 210 = .ok (.getfield 56, 3) := dk_180 0 56 (dk_at dksX4_says_9 11 rfl rfl)
theorem dX4_says_213 : decode cX4_says 213 = .ok (.aload_n 0, 1) := dk_42 (dk_at dksX4_says_9 14 rfl rfl)
theorem dX4_says_214 : decode cX4_says 214 = .ok (.getfield 9, 3) := dk_180 0 9 (dk_at dksX4_says_9 15 rfl rfl)
theorem dX4_says_217 : decode cX4_says 217 = .ok (.checkcast 28, 3) := dk_192 0 28 (dk_at dksX4_says_9 18 rfl rfl)
theorem dX4_says_220 : decode cX4_says 220 = .ok (.getfield 62, 3) := dk_180 0 62 (dk_at dksX4_says_9 21 rfl rfl)
theorem dX4_says_223 : decode cX4_says 223 = .ok (.iaload, 1) := dk_46 (dk_at dksX4_says_10 0 rfl rfl)
theorem dX4_says_224 : decode cX4_says 224 = .ok (.istore_n 3, 1) := dk_62 (dk_at dksX4_says_10 1 rfl rfl)
theorem dX4_says_225 : decode cX4_says 225 = .ok (.aload_n 0, 1) := dk_42 (dk_at dksX4_says_10 2 rfl rfl)
theorem dX4_says_226 : decode cX4_says 226 = .ok (.getfield 9, 3) := dk_180 0 9 (dk_at dksX4_says_10 3 rfl rfl)
theorem dX4_says_229 : decode cX4_says 229 = .ok (.ifnull 7, 3) := dk_198 0 7 (dk_at dksX4_says_10 6 rfl rfl)
theorem dX4_says_232 : decode cX4_says 232 = .ok (.iconst 1, 1) := dk_4 (dk_at dksX4_says_10 9 rfl rfl)
theorem dX4_says_233 : decode cX4_says 233 = .ok (.goto 4, 3) := dk_167 0 4 (dk_at dksX4_says_10 10 rfl rfl)
theorem dX4_says_236 : decode cX4_says 236 = .ok (.iconst 0, 1) := dk_3 (dk_at dksX4_says_10 13 rfl rfl)
theorem dX4_says_237 : decode cX4_says 237 = .ok (.bipush (-3), 2) := dk_16 253 (dk_at dksX4_says_10 14 rfl rfl)
theorem dX4_says_239 : decode cX4_says 239 = .ok (.invokestatic 17, 3) := dk_184 0 17 (dk_at dksX4_says_10 16 rfl rfl)
theorem dX4_says_242 : decode cX4_says 242 = .ok (.iload_n 3, 1) := dk_29 (dk_at dksX4_says_10 19 rfl rfl)
theorem dX4_says_243 : decode cX4_says 243 = .ok (.ireturn, 1) := dk_172 (dk_at dksX4_says_10 20 rfl rfl)
theorem dX4_says_244 : decode cX4_says 244 = .ok (.astore_n 3, 1) := dk_78 (dk_at dksX4_says_10 21 rfl rfl)
theorem dX4_says_245 : decode cX4_says 245 = .ok (.new 23, 3) := dk_187 0 23 (dk_at dksX4_says_11 0 rfl rfl)
theorem dX4_says_248 : decode cX4_says 248 = .ok (.dup, 1) := dk_89 (dk_at dksX4_says_11 3 rfl rfl)
theorem dX4_says_249 : decode cX4_says 249 = .ok (.bipush (-2), 2) := dk_16 254 (dk_at dksX4_says_11 4 rfl rfl)
theorem dX4_says_251 : decode cX4_says 251 = .ok (.invokespecial 25, 3) := dk_183 0 25 (dk_at dksX4_says_11 6 rfl rfl)
theorem dX4_says_254 : decode cX4_says 254 = .ok (.athrow, 1) := dk_191 (dk_at dksX4_says_11 9 rfl rfl)
theorem q84 : (Jvm.Cond.initialized "HamsterWeekends$Shelf") ∈ lw_all := lw_g (lw_at lw_m1 5 rfl) rfl
theorem q198 : (Jvm.Cond.fieldLink "HamsterWeekends$Shelf" (56 : Nat) "HamsterWeekends$Room" "had" "[I") ∈ lw_all := lw_g (lw_at lw_m1 119 rfl) rfl
theorem q228 : (Jvm.Cond.instantiable "HamsterWeekends$Shelf" (1 : Nat)) ∈ lw_all := lw_g (lw_at lw_m1 149 rfl) rfl
theorem q230 : (Jvm.Cond.instanceMethod ({ cls := "HamsterWeekends$Shelf", name := "<init>", desc := "()V" } : Jvm.MethodName)) ∈ lw_all := lw_g (lw_at lw_m1 151 rfl) rfl
theorem q231 : (Jvm.Cond.code ({ cls := "HamsterWeekends$Shelf", name := "<init>", desc := "()V" } : Jvm.MethodName) prog_18_method_1_code (1 : Nat) (Option.none : Option Jvm.ClassFile.FieldType)) ∈ lw_all := lw_g (lw_at lw_m1 152 rfl) rfl
theorem q232 : (Jvm.Cond.methodLink "HamsterWeekends$Shelf" (3 : Nat) ({ cls := "java/lang/Object", name := "<init>", desc := "()V" } : Jvm.MethodName)) ∈ lw_all := lw_g (lw_at lw_m1 153 rfl) rfl
theorem q233 : (Jvm.Cond.fieldLink "HamsterWeekends$Shelf" (9 : Nat) "HamsterWeekends$Shelf" "held" "Ljava/lang/Object;") ∈ lw_all := lw_g (lw_at lw_m1 154 rfl) rfl
theorem q235 : (Jvm.Cond.lays "HamsterWeekends$Shelf" "HamsterWeekends$Shelf" "held" "Ljava/lang/Object;") ∈ lw_all := lw_g (lw_at lw_m1 156 rfl) rfl
theorem q236 : (Jvm.Cond.soleField "HamsterWeekends$Shelf" "held") ∈ lw_all := lw_g (lw_at lw_m1 157 rfl) rfl
theorem q237 : (Jvm.Cond.superclass "HamsterWeekends$Shelf" "java/lang/Object") ∈ lw_all := lw_g (lw_at lw_m1 158 rfl) rfl
theorem q475 : (Jvm.Cond.instanceMethod ({ cls := "HamsterWeekends$Shelf", name := "row", desc := "()LHamsterWeekends$Row;" } : Jvm.MethodName)) ∈ lw_all := lw_g (lw_at lw_m2 156 rfl) rfl
theorem q476 : (Jvm.Cond.selects "HamsterWeekends$Shelf" ({ cls := "HamsterWeekends$Shelf", name := "row", desc := "()LHamsterWeekends$Row;" } : Jvm.MethodName) ({ cls := "HamsterWeekends$Shelf", name := "row", desc := "()LHamsterWeekends$Row;" } : Jvm.MethodName)) ∈ lw_all := lw_g (lw_at lw_m2 157 rfl) rfl
theorem q477 : (Jvm.Cond.codeWith ({ cls := "HamsterWeekends$Shelf", name := "row", desc := "()LHamsterWeekends$Row;" } : Jvm.MethodName) prog_18_method_2_code (2 : Nat) (Option.some (Jvm.ClassFile.FieldType.object "HamsterWeekends$Row")) [((0 : Nat), (23 : Nat), (24 : Nat), (21 : Nat))]) ∈ lw_all := lw_g (lw_at lw_m2 158 rfl) rfl
theorem q478 : (Jvm.Cond.classLink "HamsterWeekends$Shelf" (21 : Nat) "java/lang/ClassCastException") ∈ lw_all := lw_g (lw_at lw_m2 159 rfl) rfl
theorem q492 : (Jvm.Cond.classLink "HamsterWeekends$Shelf" (15 : Nat) "HamsterWeekends$Row") ∈ lw_all := lw_g (lw_at lw_m2 173 rfl) rfl
theorem q493 : (Jvm.Cond.methodLink "HamsterWeekends$Shelf" (17 : Nat) ({ cls := "HamsterWeekends", name := "need", desc := "(ZI)V" } : Jvm.MethodName)) ∈ lw_all := lw_g (lw_at lw_m2 174 rfl) rfl
theorem q494 : (Jvm.Cond.classLink "HamsterWeekends$Shelf" (23 : Nat) "HamsterWeekends$Refused") ∈ lw_all := lw_g (lw_at lw_m2 175 rfl) rfl
theorem q495 : (Jvm.Cond.methodLink "HamsterWeekends$Shelf" (25 : Nat) ({ cls := "HamsterWeekends$Refused", name := "<init>", desc := "(I)V" } : Jvm.MethodName)) ∈ lw_all := lw_g (lw_at lw_m2 176 rfl) rfl
theorem q517 : (Jvm.Cond.instanceMethod ({ cls := "HamsterWeekends$Shelf", name := "holdsHome", desc := "()Z" } : Jvm.MethodName)) ∈ lw_all := lw_g (lw_at lw_m2 198 rfl) rfl
theorem q518 : (Jvm.Cond.selects "HamsterWeekends$Shelf" ({ cls := "HamsterWeekends$Shelf", name := "holdsHome", desc := "()Z" } : Jvm.MethodName) ({ cls := "HamsterWeekends$Shelf", name := "holdsHome", desc := "()Z" } : Jvm.MethodName)) ∈ lw_all := lw_g (lw_at lw_m2 199 rfl) rfl
theorem q519 : (Jvm.Cond.code ({ cls := "HamsterWeekends$Shelf", name := "holdsHome", desc := "()Z" } : Jvm.MethodName) prog_18_method_3_code (1 : Nat) (Option.some Jvm.ClassFile.FieldType.boolean)) ∈ lw_all := lw_g (lw_at lw_m2 200 rfl) rfl
theorem q520 : (Jvm.Cond.classLink "HamsterWeekends$Shelf" (28 : Nat) "HamsterWeekends$Home") ∈ lw_all := lw_g (lw_at lw_m2 201 rfl) rfl
theorem q598 : (Jvm.Cond.instanceMethod ({ cls := "HamsterWeekends$Shelf", name := "says", desc := "(ILHamsterWeekends$Room;)I" } : Jvm.MethodName)) ∈ lw_all := lw_g (lw_at lw_m3 39 rfl) rfl
theorem q599 : (Jvm.Cond.selects "HamsterWeekends$Shelf" ({ cls := "HamsterWeekends$Shelf", name := "says", desc := "(ILHamsterWeekends$Room;)I" } : Jvm.MethodName) ({ cls := "HamsterWeekends$Shelf", name := "says", desc := "(ILHamsterWeekends$Room;)I" } : Jvm.MethodName)) ∈ lw_all := lw_g (lw_at lw_m3 40 rfl) rfl
theorem q600 : (Jvm.Cond.codeWith ({ cls := "HamsterWeekends$Shelf", name := "says", desc := "(ILHamsterWeekends$Room;)I" } : Jvm.MethodName) prog_18_method_4_code (4 : Nat) (Option.some Jvm.ClassFile.FieldType.int) [((0 : Nat), (243 : Nat), (244 : Nat), (21 : Nat))]) ∈ lw_all := lw_g (lw_at lw_m3 41 rfl) rfl
theorem q601 : (Jvm.Cond.classLink "HamsterWeekends$Shelf" (30 : Nat) "HamsterWeekends$Good") ∈ lw_all := lw_g (lw_at lw_m3 42 rfl) rfl
theorem q602 : (Jvm.Cond.methodLink "HamsterWeekends$Shelf" (32 : Nat) ({ cls := "HamsterWeekends$Good", name := "more", desc := "()I" } : Jvm.MethodName)) ∈ lw_all := lw_g (lw_at lw_m3 43 rfl) rfl
theorem q612 : (Jvm.Cond.classLink "HamsterWeekends$Shelf" (36 : Nat) "HamsterWeekends$Cat") ∈ lw_all := lw_g (lw_at lw_m3 53 rfl) rfl
theorem q613 : (Jvm.Cond.methodLink "HamsterWeekends$Shelf" (38 : Nat) ({ cls := "HamsterWeekends$Cat", name := "frightens", desc := "(I)I" } : Jvm.MethodName)) ∈ lw_all := lw_g (lw_at lw_m3 54 rfl) rfl
theorem q627 : (Jvm.Cond.classLink "HamsterWeekends$Shelf" (42 : Nat) "HamsterWeekends$Overfed") ∈ lw_all := lw_g (lw_at lw_m3 68 rfl) rfl
theorem q628 : (Jvm.Cond.methodLink "HamsterWeekends$Shelf" (44 : Nat) ({ cls := "HamsterWeekends$Overfed", name := "more", desc := "()I" } : Jvm.MethodName)) ∈ lw_all := lw_g (lw_at lw_m3 69 rfl) rfl
theorem q629 : (Jvm.Cond.classLink "HamsterWeekends$Shelf" (45 : Nat) "HamsterWeekends$Far") ∈ lw_all := lw_g (lw_at lw_m3 70 rfl) rfl
theorem q630 : (Jvm.Cond.methodLink "HamsterWeekends$Shelf" (47 : Nat) ({ cls := "HamsterWeekends$Far", name := "less", desc := "(I)I" } : Jvm.MethodName)) ∈ lw_all := lw_g (lw_at lw_m3 71 rfl) rfl
theorem q640 : (Jvm.Cond.classLink "HamsterWeekends$Shelf" (50 : Nat) "HamsterWeekends$Dog") ∈ lw_all := lw_g (lw_at lw_m3 81 rfl) rfl
theorem q641 : (Jvm.Cond.methodLink "HamsterWeekends$Shelf" (52 : Nat) ({ cls := "HamsterWeekends$Dog", name := "frightens", desc := "(I)I" } : Jvm.MethodName)) ∈ lw_all := lw_g (lw_at lw_m3 82 rfl) rfl
theorem q642 : (Jvm.Cond.classLink "HamsterWeekends$Shelf" (53 : Nat) "HamsterWeekends$Bus") ∈ lw_all := lw_g (lw_at lw_m3 83 rfl) rfl
theorem q643 : (Jvm.Cond.methodLink "HamsterWeekends$Shelf" (55 : Nat) ({ cls := "HamsterWeekends$Bus", name := "less", desc := "(I)I" } : Jvm.MethodName)) ∈ lw_all := lw_g (lw_at lw_m3 84 rfl) rfl
theorem q666 : (Jvm.Cond.fieldLink "HamsterWeekends$Shelf" (62 : Nat) "HamsterWeekends$Home" "index" "I") ∈ lw_all := lw_g (lw_at lw_m3 107 rfl) rfl
theorem in_X4 : ∀ w ∈ wsX40, w ∈ lw_all := lw_in wsX40 [235] (by decide +kernel) (by decide +kernel)

/-! HamsterWeekends$Refused -/
set_option maxRecDepth 100000
def RX6 : String := "HamsterWeekends$Refused"
def TX6 : u_T := fun k => match k with
  | 0 => ("java/lang/Throwable", "cause", "Ljava/lang/Throwable;", false)
  | 1 => ("java/lang/Throwable", "stackTrace", "[Ljava/lang/StackTraceElement;", false)
  | 2 => ("java/lang/Throwable", "suppressedExceptions", "Ljava/util/List;", false)
  | 3 => ("java/lang/Throwable", "detailMessage", "Ljava/lang/String;", false)
  | 4 => ("java/lang/Throwable", "backtrace", "Ljava/lang/Object;", false)
  | 5 => ("java/lang/Throwable", "depth", "I", false)
  | _ => ("HamsterWeekends$Refused", "why", "I", true)
def tyX6 : Nat → FieldType := fun k => match k with
  | 0 => .object "java/lang/Throwable"
  | 1 => .array (.object "java/lang/StackTraceElement")
  | 2 => .object "java/util/List"
  | 3 => .object "java/lang/String"
  | 4 => .object "java/lang/Object"
  | 5 => .int
  | _ => .int
abbrev wsX60 : List Cond := u_ws RX6 TX6 7
theorem nmX6 : ∀ a, a < 7 → ∀ b, b < 7 → a ≠ b → (TX6 a).2.1 ≠ (TX6 b).2.1 := by decide +kernel
theorem tyX6_ok : ∀ k, k < 7 → parseFieldDescriptor (TX6 k).2.2.1 = some (tyX6 k) := by decide +kernel
abbrev cX6_init : ByteArray := prog_15_method_1_code
def yX6_init : MethodName := ⟨RX6, "<init>", "(I)V"⟩
def dkwX6_init_0 : List UInt8 := [42, 1, 1, 3, 3, 183, 0, 1, 42, 27, 181, 0, 7, 177]
abbrev dktX6_init_0 : List UInt8 := dkwX6_init_0 ++ []
theorem dksX6_init_0 : cX6_init.data.toList.drop 0 = dktX6_init_0 := by decide +kernel
theorem dX6_init_0 : decode cX6_init 0 = .ok (.aload_n 0, 1) := dk_42 (dk_at dksX6_init_0 0 rfl rfl)
theorem dX6_init_1 : decode cX6_init 1 = .ok (.aconst_null, 1) := dk_1 (dk_at dksX6_init_0 1 rfl rfl)
theorem dX6_init_2 : decode cX6_init 2 = .ok (.aconst_null, 1) := dk_1 (dk_at dksX6_init_0 2 rfl rfl)
theorem dX6_init_3 : decode cX6_init 3 = .ok (.iconst 0, 1) := dk_3 (dk_at dksX6_init_0 3 rfl rfl)
theorem dX6_init_4 : decode cX6_init 4 = .ok (.iconst 0, 1) := dk_3 (dk_at dksX6_init_0 4 rfl rfl)
theorem dX6_init_5 : decode cX6_init 5 = .ok (.invokespecial 1, 3) := dk_183 0 1 (dk_at dksX6_init_0 5 rfl rfl)
theorem dX6_init_8 : decode cX6_init 8 = .ok (.aload_n 0, 1) := dk_42 (dk_at dksX6_init_0 8 rfl rfl)
theorem dX6_init_9 : decode cX6_init 9 = .ok (.iload_n 1, 1) := dk_27 (dk_at dksX6_init_0 9 rfl rfl)
theorem dX6_init_10 : decode cX6_init 10 = .ok (.putfield 7, 3) := dk_181 0 7 (dk_at dksX6_init_0 10 rfl rfl)
theorem dX6_init_13 : decode cX6_init 13 = .ok (.return_, 1) := dk_177 (dk_at dksX6_init_0 13 rfl rfl)
theorem q92 : (Jvm.Cond.initialized "HamsterWeekends$Refused") ∈ lw_all := lw_g (lw_at lw_m1 13 rfl) rfl
theorem q321 : (Jvm.Cond.selects "HamsterWeekends$Refused" ({ cls := "java/lang/Throwable", name := "fillInStackTrace", desc := "()Ljava/lang/Throwable;" } : Jvm.MethodName) ({ cls := "java/lang/Throwable", name := "fillInStackTrace", desc := "()Ljava/lang/Throwable;" } : Jvm.MethodName)) ∈ lw_all := lw_g (lw_at lw_m2 2 rfl) rfl
theorem q374 : (Jvm.Cond.instantiable "HamsterWeekends$Refused" (7 : Nat)) ∈ lw_all := lw_g (lw_at lw_m2 55 rfl) rfl
theorem q375 : (Jvm.Cond.castable "HamsterWeekends$Refused" "HamsterWeekends$Refused") ∈ lw_tbl := lw_at lw_m2 56 rfl
theorem q376 : (Jvm.Cond.selects "HamsterWeekends$Refused" ({ cls := "java/lang/Throwable", name := "fillInStackTrace", desc := "(I)Ljava/lang/Throwable;" } : Jvm.MethodName) ({ cls := "java/lang/Throwable", name := "fillInStackTrace", desc := "(I)Ljava/lang/Throwable;" } : Jvm.MethodName)) ∈ lw_all := lw_g (lw_at lw_m2 57 rfl) rfl
theorem q377 : (Jvm.Cond.lays "HamsterWeekends$Refused" "java/lang/Throwable" "cause" "Ljava/lang/Throwable;") ∈ lw_all := lw_g (lw_at lw_m2 58 rfl) rfl
theorem q378 : (Jvm.Cond.lays "HamsterWeekends$Refused" "java/lang/Throwable" "stackTrace" "[Ljava/lang/StackTraceElement;") ∈ lw_all := lw_g (lw_at lw_m2 59 rfl) rfl
theorem q379 : (Jvm.Cond.lays "HamsterWeekends$Refused" "java/lang/Throwable" "suppressedExceptions" "Ljava/util/List;") ∈ lw_all := lw_g (lw_at lw_m2 60 rfl) rfl
theorem q380 : (Jvm.Cond.lays "HamsterWeekends$Refused" "java/lang/Throwable" "detailMessage" "Ljava/lang/String;") ∈ lw_all := lw_g (lw_at lw_m2 61 rfl) rfl
theorem q381 : (Jvm.Cond.lays "HamsterWeekends$Refused" "java/lang/Throwable" "backtrace" "Ljava/lang/Object;") ∈ lw_all := lw_g (lw_at lw_m2 62 rfl) rfl
theorem q383 : (Jvm.Cond.instanceMethod ({ cls := "HamsterWeekends$Refused", name := "<init>", desc := "(I)V" } : Jvm.MethodName)) ∈ lw_all := lw_g (lw_at lw_m2 64 rfl) rfl
theorem q384 : (Jvm.Cond.code ({ cls := "HamsterWeekends$Refused", name := "<init>", desc := "(I)V" } : Jvm.MethodName) prog_15_method_1_code (2 : Nat) (Option.none : Option Jvm.ClassFile.FieldType)) ∈ lw_all := lw_g (lw_at lw_m2 65 rfl) rfl
theorem q385 : (Jvm.Cond.methodLink "HamsterWeekends$Refused" (1 : Nat) ({ cls := "java/lang/Exception", name := "<init>", desc := "(Ljava/lang/String;Ljava/lang/Throwable;ZZ)V" } : Jvm.MethodName)) ∈ lw_all := lw_g (lw_at lw_m2 66 rfl) rfl
theorem q391 : (Jvm.Cond.fieldLink "HamsterWeekends$Refused" (7 : Nat) "HamsterWeekends$Refused" "why" "I") ∈ lw_all := lw_g (lw_at lw_m2 72 rfl) rfl
theorem q393 : (Jvm.Cond.laysFinal "HamsterWeekends$Refused" "HamsterWeekends$Refused" "why" "I") ∈ lw_all := lw_g (lw_at lw_m2 74 rfl) rfl
theorem q394 : (Jvm.Cond.soleField "HamsterWeekends$Refused" "why") ∈ lw_all := lw_g (lw_at lw_m2 75 rfl) rfl
theorem q395 : (Jvm.Cond.lays "HamsterWeekends$Refused" "java/lang/Throwable" "depth" "I") ∈ lw_all := lw_g (lw_at lw_m2 76 rfl) rfl
theorem q396 : (Jvm.Cond.superclass "HamsterWeekends$Refused" "java/lang/Exception") ∈ lw_all := lw_g (lw_at lw_m2 77 rfl) rfl
theorem in_X6 : ∀ w ∈ wsX60, w ∈ lw_all := lw_in wsX60 [377, 378, 379, 380, 381, 395, 393] (by decide +kernel) (by decide +kernel)

/-! HamsterWeekends$Row -/
set_option maxRecDepth 100000
def RX7 : String := "HamsterWeekends$Row"
abbrev cX7_init : ByteArray := prog_17_method_1_code
def yX7_init : MethodName := ⟨RX7, "<init>", "()V"⟩
theorem dX7_init_0 : decode cX7_init 0 = .ok (.aload_n 0, 1) := by decide +kernel
theorem dX7_init_1 : decode cX7_init 1 = .ok (.invokespecial 1, 3) := by decide +kernel
theorem dX7_init_4 : decode cX7_init 4 = .ok (.return_, 1) := by decide +kernel
abbrev cX7_asInt : ByteArray := prog_17_method_9_code
def yX7_asInt : MethodName := ⟨RX7, "asInt", "(I)I"⟩
def dkwX7_asInt_0 : List UInt8 := [42, 27, 182, 0, 7, 136, 172]
abbrev dktX7_asInt_0 : List UInt8 := dkwX7_asInt_0 ++ []
theorem dksX7_asInt_0 : cX7_asInt.data.toList.drop 0 = dktX7_asInt_0 := by decide +kernel
theorem dX7_asInt_0 : decode cX7_asInt 0 = .ok (.aload_n 0, 1) := dk_42 (dk_at dksX7_asInt_0 0 rfl rfl)
theorem dX7_asInt_1 : decode cX7_asInt 1 = .ok (.iload_n 1, 1) := dk_27 (dk_at dksX7_asInt_0 1 rfl rfl)
theorem dX7_asInt_2 : decode cX7_asInt 2 = .ok (.invokevirtual 7, 3) := dk_182 0 7 (dk_at dksX7_asInt_0 2 rfl rfl)
theorem dX7_asInt_5 : decode cX7_asInt 5 = .ok (.l2i, 1) := dk_136 (dk_at dksX7_asInt_0 5 rfl rfl)
theorem dX7_asInt_6 : decode cX7_asInt 6 = .ok (.ireturn, 1) := dk_172 (dk_at dksX7_asInt_0 6 rfl rfl)
theorem q94 : (Jvm.Cond.initialized "HamsterWeekends$Row") ∈ lw_all := lw_g (lw_at lw_m1 15 rfl) rfl
theorem q427 : (Jvm.Cond.instanceMethod ({ cls := "HamsterWeekends$Row", name := "<init>", desc := "()V" } : Jvm.MethodName)) ∈ lw_all := lw_g (lw_at lw_m2 108 rfl) rfl
theorem q428 : (Jvm.Cond.code ({ cls := "HamsterWeekends$Row", name := "<init>", desc := "()V" } : Jvm.MethodName) prog_17_method_1_code (1 : Nat) (Option.none : Option Jvm.ClassFile.FieldType)) ∈ lw_all := lw_g (lw_at lw_m2 109 rfl) rfl
theorem q429 : (Jvm.Cond.methodLink "HamsterWeekends$Row" (1 : Nat) ({ cls := "java/lang/Object", name := "<init>", desc := "()V" } : Jvm.MethodName)) ∈ lw_all := lw_g (lw_at lw_m2 110 rfl) rfl
theorem q497 : (Jvm.Cond.declares ({ cls := "HamsterWeekends$Row", name := "put", desc := "(IJ)V" } : Jvm.MethodName)) ∈ lw_tbl := lw_at lw_m2 178 rfl
theorem q498 : (Jvm.Cond.sameMethod "HamsterWeekends$Row" "HamsterWeekends$Row" "put" "(IJ)V") ∈ lw_all := lw_g (lw_at lw_m2 179 rfl) rfl
theorem q522 : (Jvm.Cond.declares ({ cls := "HamsterWeekends$Row", name := "sort", desc := "()I" } : Jvm.MethodName)) ∈ lw_tbl := lw_at lw_m2 203 rfl
theorem q523 : (Jvm.Cond.sameMethod "HamsterWeekends$Row" "HamsterWeekends$Row" "sort" "()I") ∈ lw_all := lw_g (lw_at lw_m2 204 rfl) rfl
theorem q537 : (Jvm.Cond.declares ({ cls := "HamsterWeekends$Row", name := "held", desc := "()Ljava/lang/Object;" } : Jvm.MethodName)) ∈ lw_tbl := lw_at lw_m2 218 rfl
theorem q538 : (Jvm.Cond.sameMethod "HamsterWeekends$Row" "HamsterWeekends$Row" "held" "()Ljava/lang/Object;") ∈ lw_all := lw_g (lw_at lw_m2 219 rfl) rfl
theorem q559 : (Jvm.Cond.declares ({ cls := "HamsterWeekends$Row", name := "get", desc := "(I)J" } : Jvm.MethodName)) ∈ lw_tbl := lw_at lw_m3 0 rfl
theorem q560 : (Jvm.Cond.sameMethod "HamsterWeekends$Row" "HamsterWeekends$Row" "get" "(I)J") ∈ lw_all := lw_g (lw_at lw_m3 1 rfl) rfl
theorem q837 : (Jvm.Cond.declares ({ cls := "HamsterWeekends$Row", name := "length", desc := "()I" } : Jvm.MethodName)) ∈ lw_tbl := lw_at lw_m4 38 rfl
theorem q838 : (Jvm.Cond.sameMethod "HamsterWeekends$Row" "HamsterWeekends$Row" "length" "()I") ∈ lw_all := lw_g (lw_at lw_m4 39 rfl) rfl
theorem q852 : (Jvm.Cond.instanceMethod ({ cls := "HamsterWeekends$Row", name := "asInt", desc := "(I)I" } : Jvm.MethodName)) ∈ lw_all := lw_g (lw_at lw_m4 53 rfl) rfl
theorem q853 : (Jvm.Cond.sameMethod "HamsterWeekends$Row" "HamsterWeekends$Row" "asInt" "(I)I") ∈ lw_all := lw_g (lw_at lw_m4 54 rfl) rfl
theorem q858 : (Jvm.Cond.code ({ cls := "HamsterWeekends$Row", name := "asInt", desc := "(I)I" } : Jvm.MethodName) prog_17_method_9_code (2 : Nat) (Option.some Jvm.ClassFile.FieldType.int)) ∈ lw_all := lw_g (lw_at lw_m4 59 rfl) rfl
theorem q859 : (Jvm.Cond.methodLink "HamsterWeekends$Row" (7 : Nat) ({ cls := "HamsterWeekends$Row", name := "get", desc := "(I)J" } : Jvm.MethodName)) ∈ lw_all := lw_g (lw_at lw_m4 60 rfl) rfl

/-! HamsterWeekends$Bytes -/
set_option maxRecDepth 100000
def RX8 : String := "HamsterWeekends$Bytes"
def TX8 : u_T := fun k => match k with
  | _ => ("HamsterWeekends$Bytes", "e", "[B", true)
def tyX8 : Nat → FieldType := fun k => match k with
  | _ => .array .byte
abbrev wsX80 : List Cond := u_ws RX8 TX8 1
theorem nmX8 : ∀ a, a < 1 → ∀ b, b < 1 → a ≠ b → (TX8 a).2.1 ≠ (TX8 b).2.1 := by decide +kernel
theorem tyX8_ok : ∀ k, k < 1 → parseFieldDescriptor (TX8 k).2.2.1 = some (tyX8 k) := by decide +kernel
abbrev cX8_init : ByteArray := prog_3_method_1_code
def yX8_init : MethodName := ⟨RX8, "<init>", "(I)V"⟩
def dkwX8_init_0 : List UInt8 := [42, 183, 0, 1, 42, 27, 188, 8, 181, 0, 7, 177]
abbrev dktX8_init_0 : List UInt8 := dkwX8_init_0 ++ []
theorem dksX8_init_0 : cX8_init.data.toList.drop 0 = dktX8_init_0 := by decide +kernel
theorem dX8_init_0 : decode cX8_init 0 = .ok (.aload_n 0, 1) := dk_42 (dk_at dksX8_init_0 0 rfl rfl)
theorem dX8_init_1 : decode cX8_init 1 = .ok (.invokespecial 1, 3) := dk_183 0 1 (dk_at dksX8_init_0 1 rfl rfl)
theorem dX8_init_4 : decode cX8_init 4 = .ok (.aload_n 0, 1) := dk_42 (dk_at dksX8_init_0 4 rfl rfl)
theorem dX8_init_5 : decode cX8_init 5 = .ok (.iload_n 1, 1) := dk_27 (dk_at dksX8_init_0 5 rfl rfl)
theorem dX8_init_6 : decode cX8_init 6 = .ok (.newarray .byte, 2) := dk_188_8 (dk_at dksX8_init_0 6 rfl rfl)
theorem dX8_init_8 : decode cX8_init 8 = .ok (.putfield 7, 3) := dk_181 0 7 (dk_at dksX8_init_0 8 rfl rfl)
theorem dX8_init_11 : decode cX8_init 11 = .ok (.return_, 1) := dk_177 (dk_at dksX8_init_0 11 rfl rfl)
abbrev cX8_put : ByteArray := prog_3_method_4_code
def yX8_put : MethodName := ⟨RX8, "put", "(IJ)V"⟩
def dkwX8_put_0 : List UInt8 := [42, 180, 0, 7, 27, 32, 136, 145, 84, 177]
abbrev dktX8_put_0 : List UInt8 := dkwX8_put_0 ++ []
theorem dksX8_put_0 : cX8_put.data.toList.drop 0 = dktX8_put_0 := by decide +kernel
theorem dX8_put_0 : decode cX8_put 0 = .ok (.aload_n 0, 1) := dk_42 (dk_at dksX8_put_0 0 rfl rfl)
theorem dX8_put_1 : decode cX8_put 1 = .ok (.getfield 7, 3) := dk_180 0 7 (dk_at dksX8_put_0 1 rfl rfl)
theorem dX8_put_4 : decode cX8_put 4 = .ok (.iload_n 1, 1) := dk_27 (dk_at dksX8_put_0 4 rfl rfl)
theorem dX8_put_5 : decode cX8_put 5 = .ok (.lload_n 2, 1) := dk_32 (dk_at dksX8_put_0 5 rfl rfl)
theorem dX8_put_6 : decode cX8_put 6 = .ok (.l2i, 1) := dk_136 (dk_at dksX8_put_0 6 rfl rfl)
theorem dX8_put_7 : decode cX8_put 7 = .ok (.i2b, 1) := dk_145 (dk_at dksX8_put_0 7 rfl rfl)
theorem dX8_put_8 : decode cX8_put 8 = .ok (.bastore, 1) := dk_84 (dk_at dksX8_put_0 8 rfl rfl)
theorem dX8_put_9 : decode cX8_put 9 = .ok (.return_, 1) := dk_177 (dk_at dksX8_put_0 9 rfl rfl)
abbrev cX8_sort : ByteArray := prog_3_method_2_code
def yX8_sort : MethodName := ⟨RX8, "sort", "()I"⟩
theorem dX8_sort_0 : decode cX8_sort 0 = .ok (.iconst 0, 1) := by decide +kernel
theorem dX8_sort_1 : decode cX8_sort 1 = .ok (.ireturn, 1) := by decide +kernel
abbrev cX8_held : ByteArray := prog_3_method_8_code
def yX8_held : MethodName := ⟨RX8, "held", "()Ljava/lang/Object;"⟩
theorem dX8_held_0 : decode cX8_held 0 = .ok (.aload_n 0, 1) := by decide +kernel
theorem dX8_held_1 : decode cX8_held 1 = .ok (.getfield 7, 3) := by decide +kernel
theorem dX8_held_4 : decode cX8_held 4 = .ok (.areturn, 1) := by decide +kernel
abbrev cX8_get : ByteArray := prog_3_method_5_code
def yX8_get : MethodName := ⟨RX8, "get", "(I)J"⟩
def dkwX8_get_0 : List UInt8 := [42, 180, 0, 7, 27, 51, 133, 173]
abbrev dktX8_get_0 : List UInt8 := dkwX8_get_0 ++ []
theorem dksX8_get_0 : cX8_get.data.toList.drop 0 = dktX8_get_0 := by decide +kernel
theorem dX8_get_0 : decode cX8_get 0 = .ok (.aload_n 0, 1) := dk_42 (dk_at dksX8_get_0 0 rfl rfl)
theorem dX8_get_1 : decode cX8_get 1 = .ok (.getfield 7, 3) := dk_180 0 7 (dk_at dksX8_get_0 1 rfl rfl)
theorem dX8_get_4 : decode cX8_get 4 = .ok (.iload_n 1, 1) := dk_27 (dk_at dksX8_get_0 4 rfl rfl)
theorem dX8_get_5 : decode cX8_get 5 = .ok (.baload, 1) := dk_51 (dk_at dksX8_get_0 5 rfl rfl)
theorem dX8_get_6 : decode cX8_get 6 = .ok (.i2l, 1) := dk_133 (dk_at dksX8_get_0 6 rfl rfl)
theorem dX8_get_7 : decode cX8_get 7 = .ok (.lreturn, 1) := dk_173 (dk_at dksX8_get_0 7 rfl rfl)
abbrev cX8_length : ByteArray := prog_3_method_3_code
def yX8_length : MethodName := ⟨RX8, "length", "()I"⟩
def dkwX8_length_0 : List UInt8 := [42, 180, 0, 7, 190, 172]
abbrev dktX8_length_0 : List UInt8 := dkwX8_length_0 ++ []
theorem dksX8_length_0 : cX8_length.data.toList.drop 0 = dktX8_length_0 := by decide +kernel
theorem dX8_length_0 : decode cX8_length 0 = .ok (.aload_n 0, 1) := dk_42 (dk_at dksX8_length_0 0 rfl rfl)
theorem dX8_length_1 : decode cX8_length 1 = .ok (.getfield 7, 3) := dk_180 0 7 (dk_at dksX8_length_0 1 rfl rfl)
theorem dX8_length_4 : decode cX8_length 4 = .ok (.arraylength, 1) := dk_190 (dk_at dksX8_length_0 4 rfl rfl)
theorem dX8_length_5 : decode cX8_length 5 = .ok (.ireturn, 1) := dk_172 (dk_at dksX8_length_0 5 rfl rfl)
theorem q95 : (Jvm.Cond.initialized "HamsterWeekends$Bytes") ∈ lw_all := lw_g (lw_at lw_m1 16 rfl) rfl
theorem q422 : (Jvm.Cond.instantiable "HamsterWeekends$Bytes" (1 : Nat)) ∈ lw_all := lw_g (lw_at lw_m2 103 rfl) rfl
theorem q424 : (Jvm.Cond.instanceMethod ({ cls := "HamsterWeekends$Bytes", name := "<init>", desc := "(I)V" } : Jvm.MethodName)) ∈ lw_all := lw_g (lw_at lw_m2 105 rfl) rfl
theorem q425 : (Jvm.Cond.code ({ cls := "HamsterWeekends$Bytes", name := "<init>", desc := "(I)V" } : Jvm.MethodName) prog_3_method_1_code (2 : Nat) (Option.none : Option Jvm.ClassFile.FieldType)) ∈ lw_all := lw_g (lw_at lw_m2 106 rfl) rfl
theorem q426 : (Jvm.Cond.methodLink "HamsterWeekends$Bytes" (1 : Nat) ({ cls := "HamsterWeekends$Row", name := "<init>", desc := "()V" } : Jvm.MethodName)) ∈ lw_all := lw_g (lw_at lw_m2 107 rfl) rfl
theorem q430 : (Jvm.Cond.fieldLink "HamsterWeekends$Bytes" (7 : Nat) "HamsterWeekends$Bytes" "e" "[B") ∈ lw_all := lw_g (lw_at lw_m2 111 rfl) rfl
theorem q431 : (Jvm.Cond.laysFinal "HamsterWeekends$Bytes" "HamsterWeekends$Bytes" "e" "[B") ∈ lw_all := lw_g (lw_at lw_m2 112 rfl) rfl
theorem q432 : (Jvm.Cond.soleField "HamsterWeekends$Bytes" "e") ∈ lw_all := lw_g (lw_at lw_m2 113 rfl) rfl
theorem q433 : (Jvm.Cond.superclass "HamsterWeekends$Bytes" "HamsterWeekends$Row") ∈ lw_all := lw_g (lw_at lw_m2 114 rfl) rfl
theorem q499 : (Jvm.Cond.selects "HamsterWeekends$Bytes" ({ cls := "HamsterWeekends$Row", name := "put", desc := "(IJ)V" } : Jvm.MethodName) ({ cls := "HamsterWeekends$Bytes", name := "put", desc := "(IJ)V" } : Jvm.MethodName)) ∈ lw_all := lw_g (lw_at lw_m2 180 rfl) rfl
theorem q500 : (Jvm.Cond.instanceMethod ({ cls := "HamsterWeekends$Bytes", name := "put", desc := "(IJ)V" } : Jvm.MethodName)) ∈ lw_all := lw_g (lw_at lw_m2 181 rfl) rfl
theorem q501 : (Jvm.Cond.code ({ cls := "HamsterWeekends$Bytes", name := "put", desc := "(IJ)V" } : Jvm.MethodName) prog_3_method_4_code (4 : Nat) (Option.none : Option Jvm.ClassFile.FieldType)) ∈ lw_all := lw_g (lw_at lw_m2 182 rfl) rfl
theorem q524 : (Jvm.Cond.selects "HamsterWeekends$Bytes" ({ cls := "HamsterWeekends$Row", name := "sort", desc := "()I" } : Jvm.MethodName) ({ cls := "HamsterWeekends$Bytes", name := "sort", desc := "()I" } : Jvm.MethodName)) ∈ lw_all := lw_g (lw_at lw_m2 205 rfl) rfl
theorem q525 : (Jvm.Cond.instanceMethod ({ cls := "HamsterWeekends$Bytes", name := "sort", desc := "()I" } : Jvm.MethodName)) ∈ lw_all := lw_g (lw_at lw_m2 206 rfl) rfl
theorem q526 : (Jvm.Cond.code ({ cls := "HamsterWeekends$Bytes", name := "sort", desc := "()I" } : Jvm.MethodName) prog_3_method_2_code (1 : Nat) (Option.some Jvm.ClassFile.FieldType.int)) ∈ lw_all := lw_g (lw_at lw_m2 207 rfl) rfl
theorem q539 : (Jvm.Cond.selects "HamsterWeekends$Bytes" ({ cls := "HamsterWeekends$Row", name := "held", desc := "()Ljava/lang/Object;" } : Jvm.MethodName) ({ cls := "HamsterWeekends$Bytes", name := "held", desc := "()Ljava/lang/Object;" } : Jvm.MethodName)) ∈ lw_all := lw_g (lw_at lw_m2 220 rfl) rfl
theorem q540 : (Jvm.Cond.instanceMethod ({ cls := "HamsterWeekends$Bytes", name := "held", desc := "()Ljava/lang/Object;" } : Jvm.MethodName)) ∈ lw_all := lw_g (lw_at lw_m2 221 rfl) rfl
theorem q541 : (Jvm.Cond.code ({ cls := "HamsterWeekends$Bytes", name := "held", desc := "()Ljava/lang/Object;" } : Jvm.MethodName) prog_3_method_8_code (1 : Nat) (Option.some (Jvm.ClassFile.FieldType.object "java/lang/Object"))) ∈ lw_all := lw_g (lw_at lw_m2 222 rfl) rfl
theorem q561 : (Jvm.Cond.selects "HamsterWeekends$Bytes" ({ cls := "HamsterWeekends$Row", name := "get", desc := "(I)J" } : Jvm.MethodName) ({ cls := "HamsterWeekends$Bytes", name := "get", desc := "(I)J" } : Jvm.MethodName)) ∈ lw_all := lw_g (lw_at lw_m3 2 rfl) rfl
theorem q562 : (Jvm.Cond.instanceMethod ({ cls := "HamsterWeekends$Bytes", name := "get", desc := "(I)J" } : Jvm.MethodName)) ∈ lw_all := lw_g (lw_at lw_m3 3 rfl) rfl
theorem q563 : (Jvm.Cond.code ({ cls := "HamsterWeekends$Bytes", name := "get", desc := "(I)J" } : Jvm.MethodName) prog_3_method_5_code (2 : Nat) (Option.some Jvm.ClassFile.FieldType.long)) ∈ lw_all := lw_g (lw_at lw_m3 4 rfl) rfl
theorem q839 : (Jvm.Cond.selects "HamsterWeekends$Bytes" ({ cls := "HamsterWeekends$Row", name := "length", desc := "()I" } : Jvm.MethodName) ({ cls := "HamsterWeekends$Bytes", name := "length", desc := "()I" } : Jvm.MethodName)) ∈ lw_all := lw_g (lw_at lw_m4 40 rfl) rfl
theorem q840 : (Jvm.Cond.instanceMethod ({ cls := "HamsterWeekends$Bytes", name := "length", desc := "()I" } : Jvm.MethodName)) ∈ lw_all := lw_g (lw_at lw_m4 41 rfl) rfl
theorem q841 : (Jvm.Cond.code ({ cls := "HamsterWeekends$Bytes", name := "length", desc := "()I" } : Jvm.MethodName) prog_3_method_3_code (1 : Nat) (Option.some Jvm.ClassFile.FieldType.int)) ∈ lw_all := lw_g (lw_at lw_m4 42 rfl) rfl
theorem q854 : (Jvm.Cond.selects "HamsterWeekends$Bytes" ({ cls := "HamsterWeekends$Row", name := "asInt", desc := "(I)I" } : Jvm.MethodName) ({ cls := "HamsterWeekends$Row", name := "asInt", desc := "(I)I" } : Jvm.MethodName)) ∈ lw_all := lw_g (lw_at lw_m4 55 rfl) rfl
theorem q1831 : (Jvm.Cond.castable "HamsterWeekends$Bytes" "HamsterWeekends$Row") ∈ lw_tbl := lw_at lw_m8 72 rfl
theorem in_X8 : ∀ w ∈ wsX80, w ∈ lw_all := lw_in wsX80 [431] (by decide +kernel) (by decide +kernel)

/-! HamsterWeekends$Shorts -/
set_option maxRecDepth 100000
def RX9 : String := "HamsterWeekends$Shorts"
def TX9 : u_T := fun k => match k with
  | _ => ("HamsterWeekends$Shorts", "e", "[S", true)
def tyX9 : Nat → FieldType := fun k => match k with
  | _ => .array .short
abbrev wsX90 : List Cond := u_ws RX9 TX9 1
theorem nmX9 : ∀ a, a < 1 → ∀ b, b < 1 → a ≠ b → (TX9 a).2.1 ≠ (TX9 b).2.1 := by decide +kernel
theorem tyX9_ok : ∀ k, k < 1 → parseFieldDescriptor (TX9 k).2.2.1 = some (tyX9 k) := by decide +kernel
abbrev cX9_init : ByteArray := prog_19_method_1_code
def yX9_init : MethodName := ⟨RX9, "<init>", "(I)V"⟩
def dkwX9_init_0 : List UInt8 := [42, 183, 0, 1, 42, 27, 188, 9, 181, 0, 7, 177]
abbrev dktX9_init_0 : List UInt8 := dkwX9_init_0 ++ []
theorem dksX9_init_0 : cX9_init.data.toList.drop 0 = dktX9_init_0 := by decide +kernel
theorem dX9_init_0 : decode cX9_init 0 = .ok (.aload_n 0, 1) := dk_42 (dk_at dksX9_init_0 0 rfl rfl)
theorem dX9_init_1 : decode cX9_init 1 = .ok (.invokespecial 1, 3) := dk_183 0 1 (dk_at dksX9_init_0 1 rfl rfl)
theorem dX9_init_4 : decode cX9_init 4 = .ok (.aload_n 0, 1) := dk_42 (dk_at dksX9_init_0 4 rfl rfl)
theorem dX9_init_5 : decode cX9_init 5 = .ok (.iload_n 1, 1) := dk_27 (dk_at dksX9_init_0 5 rfl rfl)
theorem dX9_init_6 : decode cX9_init 6 = .ok (.newarray .short, 2) := dk_188_9 (dk_at dksX9_init_0 6 rfl rfl)
theorem dX9_init_8 : decode cX9_init 8 = .ok (.putfield 7, 3) := dk_181 0 7 (dk_at dksX9_init_0 8 rfl rfl)
theorem dX9_init_11 : decode cX9_init 11 = .ok (.return_, 1) := dk_177 (dk_at dksX9_init_0 11 rfl rfl)
abbrev cX9_put : ByteArray := prog_19_method_4_code
def yX9_put : MethodName := ⟨RX9, "put", "(IJ)V"⟩
def dkwX9_put_0 : List UInt8 := [42, 180, 0, 7, 27, 32, 136, 147, 86, 177]
abbrev dktX9_put_0 : List UInt8 := dkwX9_put_0 ++ []
theorem dksX9_put_0 : cX9_put.data.toList.drop 0 = dktX9_put_0 := by decide +kernel
theorem dX9_put_0 : decode cX9_put 0 = .ok (.aload_n 0, 1) := dk_42 (dk_at dksX9_put_0 0 rfl rfl)
theorem dX9_put_1 : decode cX9_put 1 = .ok (.getfield 7, 3) := dk_180 0 7 (dk_at dksX9_put_0 1 rfl rfl)
theorem dX9_put_4 : decode cX9_put 4 = .ok (.iload_n 1, 1) := dk_27 (dk_at dksX9_put_0 4 rfl rfl)
theorem dX9_put_5 : decode cX9_put 5 = .ok (.lload_n 2, 1) := dk_32 (dk_at dksX9_put_0 5 rfl rfl)
theorem dX9_put_6 : decode cX9_put 6 = .ok (.l2i, 1) := dk_136 (dk_at dksX9_put_0 6 rfl rfl)
theorem dX9_put_7 : decode cX9_put 7 = .ok (.i2s, 1) := dk_147 (dk_at dksX9_put_0 7 rfl rfl)
theorem dX9_put_8 : decode cX9_put 8 = .ok (.sastore, 1) := dk_86 (dk_at dksX9_put_0 8 rfl rfl)
theorem dX9_put_9 : decode cX9_put 9 = .ok (.return_, 1) := dk_177 (dk_at dksX9_put_0 9 rfl rfl)
abbrev cX9_sort : ByteArray := prog_19_method_2_code
def yX9_sort : MethodName := ⟨RX9, "sort", "()I"⟩
theorem dX9_sort_0 : decode cX9_sort 0 = .ok (.iconst 1, 1) := by decide +kernel
theorem dX9_sort_1 : decode cX9_sort 1 = .ok (.ireturn, 1) := by decide +kernel
abbrev cX9_held : ByteArray := prog_19_method_8_code
def yX9_held : MethodName := ⟨RX9, "held", "()Ljava/lang/Object;"⟩
theorem dX9_held_0 : decode cX9_held 0 = .ok (.aload_n 0, 1) := by decide +kernel
theorem dX9_held_1 : decode cX9_held 1 = .ok (.getfield 7, 3) := by decide +kernel
theorem dX9_held_4 : decode cX9_held 4 = .ok (.areturn, 1) := by decide +kernel
abbrev cX9_get : ByteArray := prog_19_method_5_code
def yX9_get : MethodName := ⟨RX9, "get", "(I)J"⟩
def dkwX9_get_0 : List UInt8 := [42, 180, 0, 7, 27, 53, 133, 173]
abbrev dktX9_get_0 : List UInt8 := dkwX9_get_0 ++ []
theorem dksX9_get_0 : cX9_get.data.toList.drop 0 = dktX9_get_0 := by decide +kernel
theorem dX9_get_0 : decode cX9_get 0 = .ok (.aload_n 0, 1) := dk_42 (dk_at dksX9_get_0 0 rfl rfl)
theorem dX9_get_1 : decode cX9_get 1 = .ok (.getfield 7, 3) := dk_180 0 7 (dk_at dksX9_get_0 1 rfl rfl)
theorem dX9_get_4 : decode cX9_get 4 = .ok (.iload_n 1, 1) := dk_27 (dk_at dksX9_get_0 4 rfl rfl)
theorem dX9_get_5 : decode cX9_get 5 = .ok (.saload, 1) := dk_53 (dk_at dksX9_get_0 5 rfl rfl)
theorem dX9_get_6 : decode cX9_get 6 = .ok (.i2l, 1) := dk_133 (dk_at dksX9_get_0 6 rfl rfl)
theorem dX9_get_7 : decode cX9_get 7 = .ok (.lreturn, 1) := dk_173 (dk_at dksX9_get_0 7 rfl rfl)
abbrev cX9_length : ByteArray := prog_19_method_3_code
def yX9_length : MethodName := ⟨RX9, "length", "()I"⟩
def dkwX9_length_0 : List UInt8 := [42, 180, 0, 7, 190, 172]
abbrev dktX9_length_0 : List UInt8 := dkwX9_length_0 ++ []
theorem dksX9_length_0 : cX9_length.data.toList.drop 0 = dktX9_length_0 := by decide +kernel
theorem dX9_length_0 : decode cX9_length 0 = .ok (.aload_n 0, 1) := dk_42 (dk_at dksX9_length_0 0 rfl rfl)
theorem dX9_length_1 : decode cX9_length 1 = .ok (.getfield 7, 3) := dk_180 0 7 (dk_at dksX9_length_0 1 rfl rfl)
theorem dX9_length_4 : decode cX9_length 4 = .ok (.arraylength, 1) := dk_190 (dk_at dksX9_length_0 4 rfl rfl)
theorem dX9_length_5 : decode cX9_length 5 = .ok (.ireturn, 1) := dk_172 (dk_at dksX9_length_0 5 rfl rfl)
theorem q96 : (Jvm.Cond.initialized "HamsterWeekends$Shorts") ∈ lw_all := lw_g (lw_at lw_m1 17 rfl) rfl
theorem q435 : (Jvm.Cond.instantiable "HamsterWeekends$Shorts" (1 : Nat)) ∈ lw_all := lw_g (lw_at lw_m2 116 rfl) rfl
theorem q437 : (Jvm.Cond.instanceMethod ({ cls := "HamsterWeekends$Shorts", name := "<init>", desc := "(I)V" } : Jvm.MethodName)) ∈ lw_all := lw_g (lw_at lw_m2 118 rfl) rfl
theorem q438 : (Jvm.Cond.code ({ cls := "HamsterWeekends$Shorts", name := "<init>", desc := "(I)V" } : Jvm.MethodName) prog_19_method_1_code (2 : Nat) (Option.none : Option Jvm.ClassFile.FieldType)) ∈ lw_all := lw_g (lw_at lw_m2 119 rfl) rfl
theorem q439 : (Jvm.Cond.methodLink "HamsterWeekends$Shorts" (1 : Nat) ({ cls := "HamsterWeekends$Row", name := "<init>", desc := "()V" } : Jvm.MethodName)) ∈ lw_all := lw_g (lw_at lw_m2 120 rfl) rfl
theorem q440 : (Jvm.Cond.fieldLink "HamsterWeekends$Shorts" (7 : Nat) "HamsterWeekends$Shorts" "e" "[S") ∈ lw_all := lw_g (lw_at lw_m2 121 rfl) rfl
theorem q441 : (Jvm.Cond.laysFinal "HamsterWeekends$Shorts" "HamsterWeekends$Shorts" "e" "[S") ∈ lw_all := lw_g (lw_at lw_m2 122 rfl) rfl
theorem q442 : (Jvm.Cond.soleField "HamsterWeekends$Shorts" "e") ∈ lw_all := lw_g (lw_at lw_m2 123 rfl) rfl
theorem q443 : (Jvm.Cond.superclass "HamsterWeekends$Shorts" "HamsterWeekends$Row") ∈ lw_all := lw_g (lw_at lw_m2 124 rfl) rfl
theorem q508 : (Jvm.Cond.selects "HamsterWeekends$Shorts" ({ cls := "HamsterWeekends$Row", name := "put", desc := "(IJ)V" } : Jvm.MethodName) ({ cls := "HamsterWeekends$Shorts", name := "put", desc := "(IJ)V" } : Jvm.MethodName)) ∈ lw_all := lw_g (lw_at lw_m2 189 rfl) rfl
theorem q509 : (Jvm.Cond.instanceMethod ({ cls := "HamsterWeekends$Shorts", name := "put", desc := "(IJ)V" } : Jvm.MethodName)) ∈ lw_all := lw_g (lw_at lw_m2 190 rfl) rfl
theorem q510 : (Jvm.Cond.code ({ cls := "HamsterWeekends$Shorts", name := "put", desc := "(IJ)V" } : Jvm.MethodName) prog_19_method_4_code (4 : Nat) (Option.none : Option Jvm.ClassFile.FieldType)) ∈ lw_all := lw_g (lw_at lw_m2 191 rfl) rfl
theorem q533 : (Jvm.Cond.selects "HamsterWeekends$Shorts" ({ cls := "HamsterWeekends$Row", name := "sort", desc := "()I" } : Jvm.MethodName) ({ cls := "HamsterWeekends$Shorts", name := "sort", desc := "()I" } : Jvm.MethodName)) ∈ lw_all := lw_g (lw_at lw_m2 214 rfl) rfl
theorem q534 : (Jvm.Cond.instanceMethod ({ cls := "HamsterWeekends$Shorts", name := "sort", desc := "()I" } : Jvm.MethodName)) ∈ lw_all := lw_g (lw_at lw_m2 215 rfl) rfl
theorem q535 : (Jvm.Cond.code ({ cls := "HamsterWeekends$Shorts", name := "sort", desc := "()I" } : Jvm.MethodName) prog_19_method_2_code (1 : Nat) (Option.some Jvm.ClassFile.FieldType.int)) ∈ lw_all := lw_g (lw_at lw_m2 216 rfl) rfl
theorem q548 : (Jvm.Cond.selects "HamsterWeekends$Shorts" ({ cls := "HamsterWeekends$Row", name := "held", desc := "()Ljava/lang/Object;" } : Jvm.MethodName) ({ cls := "HamsterWeekends$Shorts", name := "held", desc := "()Ljava/lang/Object;" } : Jvm.MethodName)) ∈ lw_all := lw_g (lw_at lw_m2 229 rfl) rfl
theorem q549 : (Jvm.Cond.instanceMethod ({ cls := "HamsterWeekends$Shorts", name := "held", desc := "()Ljava/lang/Object;" } : Jvm.MethodName)) ∈ lw_all := lw_g (lw_at lw_m2 230 rfl) rfl
theorem q550 : (Jvm.Cond.code ({ cls := "HamsterWeekends$Shorts", name := "held", desc := "()Ljava/lang/Object;" } : Jvm.MethodName) prog_19_method_8_code (1 : Nat) (Option.some (Jvm.ClassFile.FieldType.object "java/lang/Object"))) ∈ lw_all := lw_g (lw_at lw_m2 231 rfl) rfl
theorem q570 : (Jvm.Cond.selects "HamsterWeekends$Shorts" ({ cls := "HamsterWeekends$Row", name := "get", desc := "(I)J" } : Jvm.MethodName) ({ cls := "HamsterWeekends$Shorts", name := "get", desc := "(I)J" } : Jvm.MethodName)) ∈ lw_all := lw_g (lw_at lw_m3 11 rfl) rfl
theorem q571 : (Jvm.Cond.instanceMethod ({ cls := "HamsterWeekends$Shorts", name := "get", desc := "(I)J" } : Jvm.MethodName)) ∈ lw_all := lw_g (lw_at lw_m3 12 rfl) rfl
theorem q572 : (Jvm.Cond.code ({ cls := "HamsterWeekends$Shorts", name := "get", desc := "(I)J" } : Jvm.MethodName) prog_19_method_5_code (2 : Nat) (Option.some Jvm.ClassFile.FieldType.long)) ∈ lw_all := lw_g (lw_at lw_m3 13 rfl) rfl
theorem q848 : (Jvm.Cond.selects "HamsterWeekends$Shorts" ({ cls := "HamsterWeekends$Row", name := "length", desc := "()I" } : Jvm.MethodName) ({ cls := "HamsterWeekends$Shorts", name := "length", desc := "()I" } : Jvm.MethodName)) ∈ lw_all := lw_g (lw_at lw_m4 49 rfl) rfl
theorem q849 : (Jvm.Cond.instanceMethod ({ cls := "HamsterWeekends$Shorts", name := "length", desc := "()I" } : Jvm.MethodName)) ∈ lw_all := lw_g (lw_at lw_m4 50 rfl) rfl
theorem q850 : (Jvm.Cond.code ({ cls := "HamsterWeekends$Shorts", name := "length", desc := "()I" } : Jvm.MethodName) prog_19_method_3_code (1 : Nat) (Option.some Jvm.ClassFile.FieldType.int)) ∈ lw_all := lw_g (lw_at lw_m4 51 rfl) rfl
theorem q857 : (Jvm.Cond.selects "HamsterWeekends$Shorts" ({ cls := "HamsterWeekends$Row", name := "asInt", desc := "(I)I" } : Jvm.MethodName) ({ cls := "HamsterWeekends$Row", name := "asInt", desc := "(I)I" } : Jvm.MethodName)) ∈ lw_all := lw_g (lw_at lw_m4 58 rfl) rfl
theorem q1834 : (Jvm.Cond.castable "HamsterWeekends$Shorts" "HamsterWeekends$Row") ∈ lw_tbl := lw_at lw_m8 75 rfl
theorem in_X9 : ∀ w ∈ wsX90, w ∈ lw_all := lw_in wsX90 [441] (by decide +kernel) (by decide +kernel)

