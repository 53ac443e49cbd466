theorem q96 : (Jvm.Cond.initialized "AheadRowsLaw") ∈ lw_all := lw_g (lw_at lw_m1 0 rfl) rfl
set_option maxRecDepth 100000
theorem q127 : (Jvm.Cond.classLink "AheadRowsLaw" (7 : Nat) "AheadRows") ∈ lw_all := lw_g (lw_at lw_m1 31 rfl) rfl
theorem q129 : (Jvm.Cond.methodLink "AheadRowsLaw" (9 : Nat) ({ cls := "AheadRows", name := "<init>", desc := "()V" } : Jvm.MethodName)) ∈ lw_all := lw_g (lw_at lw_m1 33 rfl) rfl
theorem q246 : (Jvm.Cond.methodLink "AheadRowsLaw" (13 : Nat) ({ cls := "AheadRows", name := "letter", desc := "(I)I" } : Jvm.MethodName)) ∈ lw_all := lw_g (lw_at lw_m1 150 rfl) rfl
theorem q255 : (Jvm.Cond.methodLink "AheadRowsLaw" (18 : Nat) ({ cls := "AheadRows", name := "blank", desc := "()I" } : Jvm.MethodName)) ∈ lw_all := lw_g (lw_at lw_m1 159 rfl) rfl
theorem q259 : (Jvm.Cond.methodLink "AheadRowsLaw" (23 : Nat) ({ cls := "AheadRows", name := "fault", desc := "()I" } : Jvm.MethodName)) ∈ lw_all := lw_g (lw_at lw_m1 163 rfl) rfl
theorem q489 : (Jvm.Cond.methodLink "AheadRowsLaw" (27 : Nat) ({ cls := "AheadRows", name := "rows", desc := "()I" } : Jvm.MethodName)) ∈ lw_all := lw_g (lw_at lw_m2 153 rfl) rfl
theorem q550 : (Jvm.Cond.methodLink "AheadRowsLaw" (31 : Nat) ({ cls := "AheadRows", name := "row", desc := "(II)I" } : Jvm.MethodName)) ∈ lw_all := lw_g (lw_at lw_m2 214 rfl) rfl
theorem q611 : (Jvm.Cond.methodLink "AheadRowsLaw" (36 : Nat) ({ cls := "AheadRows", name := "as", desc := "(II)I" } : Jvm.MethodName)) ∈ lw_all := lw_g (lw_at lw_m3 35 rfl) rfl
theorem q706 : (Jvm.Cond.methodLink "AheadRowsLaw" (40 : Nat) ({ cls := "AheadRows", name := "term", desc := "(II)I" } : Jvm.MethodName)) ∈ lw_all := lw_g (lw_at lw_m3 130 rfl) rfl
theorem q769 : (Jvm.Cond.methodLink "AheadRowsLaw" (44 : Nat) ({ cls := "AheadRows", name := "by", desc := "(III)I" } : Jvm.MethodName)) ∈ lw_all := lw_g (lw_at lw_m3 193 rfl) rfl
theorem q840 : (Jvm.Cond.methodLink "AheadRowsLaw" (49 : Nat) ({ cls := "AheadRows", name := "lap", desc := "(III)I" } : Jvm.MethodName)) ∈ lw_all := lw_g (lw_at lw_m4 24 rfl) rfl
theorem q851 : (Jvm.Cond.methodLink "AheadRowsLaw" (53 : Nat) ({ cls := "AheadRows", name := "least", desc := "(III)I" } : Jvm.MethodName)) ∈ lw_all := lw_g (lw_at lw_m4 35 rfl) rfl
theorem q914 : (Jvm.Cond.methodLink "AheadRowsLaw" (57 : Nat) ({ cls := "AheadRows", name := "rule", desc := "(II)I" } : Jvm.MethodName)) ∈ lw_all := lw_g (lw_at lw_m4 98 rfl) rfl
theorem q952 : (Jvm.Cond.methodLink "AheadRowsLaw" (61 : Nat) ({ cls := "AheadRows", name := "roots", desc := "(II)I" } : Jvm.MethodName)) ∈ lw_all := lw_g (lw_at lw_m4 136 rfl) rfl
theorem q977 : (Jvm.Cond.methodLink "AheadRowsLaw" (65 : Nat) ({ cls := "AheadRows", name := "noughts", desc := "(I)I" } : Jvm.MethodName)) ∈ lw_all := lw_g (lw_at lw_m4 161 rfl) rfl
theorem q985 : (Jvm.Cond.methodLink "AheadRowsLaw" (69 : Nat) ({ cls := "AheadRows", name := "ends", desc := "(I)I" } : Jvm.MethodName)) ∈ lw_all := lw_g (lw_at lw_m4 169 rfl) rfl
theorem q989 : (Jvm.Cond.methodLink "AheadRowsLaw" (73 : Nat) ({ cls := "AheadRows", name := "open", desc := "(II)I" } : Jvm.MethodName)) ∈ lw_all := lw_g (lw_at lw_m4 173 rfl) rfl
theorem q1001 : (Jvm.Cond.methodLink "AheadRowsLaw" (77 : Nat) ({ cls := "AheadRows", name := "meets", desc := "(III)I" } : Jvm.MethodName)) ∈ lw_all := lw_g (lw_at lw_m4 185 rfl) rfl
theorem q1010 : (Jvm.Cond.methodLink "AheadRowsLaw" (81 : Nat) ({ cls := "AheadRows", name := "told", desc := "(IIII)I" } : Jvm.MethodName)) ∈ lw_all := lw_g (lw_at lw_m4 194 rfl) rfl
theorem q1029 : (Jvm.Cond.methodLink "AheadRowsLaw" (86 : Nat) ({ cls := "AheadRows", name := "sum", desc := "(II)I" } : Jvm.MethodName)) ∈ lw_all := lw_g (lw_at lw_m4 213 rfl) rfl
theorem q1034 : (Jvm.Cond.methodLink "AheadRowsLaw" (90 : Nat) ({ cls := "AheadRows", name := "product", desc := "(II)I" } : Jvm.MethodName)) ∈ lw_all := lw_g (lw_at lw_m4 218 rfl) rfl
theorem q1039 : (Jvm.Cond.methodLink "AheadRowsLaw" (94 : Nat) ({ cls := "AheadRows", name := "each", desc := "(III)I" } : Jvm.MethodName)) ∈ lw_all := lw_g (lw_at lw_m4 223 rfl) rfl
theorem q1044 : (Jvm.Cond.methodLink "AheadRowsLaw" (98 : Nat) ({ cls := "AheadRows", name := "step", desc := "(I)I" } : Jvm.MethodName)) ∈ lw_all := lw_g (lw_at lw_m4 228 rfl) rfl
theorem q1049 : (Jvm.Cond.methodLink "AheadRowsLaw" (102 : Nat) ({ cls := "AheadRows", name := "put", desc := "(III)I" } : Jvm.MethodName)) ∈ lw_all := lw_g (lw_at lw_m4 233 rfl) rfl
theorem q1058 : (Jvm.Cond.methodLink "AheadRowsLaw" (106 : Nat) ({ cls := "AheadRows", name := "drop", desc := "()I" } : Jvm.MethodName)) ∈ lw_all := lw_g (lw_at lw_m5 2 rfl) rfl
theorem q1072 : (Jvm.Cond.methodLink "AheadRowsLaw" (110 : Nat) ({ cls := "AheadRows", name := "ease", desc := "(I)I" } : Jvm.MethodName)) ∈ lw_all := lw_g (lw_at lw_m5 16 rfl) rfl
theorem q1142 : (Jvm.Cond.methodLink "AheadRowsLaw" (114 : Nat) ({ cls := "AheadRows", name := "give", desc := "(I)I" } : Jvm.MethodName)) ∈ lw_all := lw_g (lw_at lw_m5 86 rfl) rfl
theorem q1146 : (Jvm.Cond.methodLink "AheadRowsLaw" (118 : Nat) ({ cls := "AheadRows", name := "forget", desc := "()I" } : Jvm.MethodName)) ∈ lw_all := lw_g (lw_at lw_m5 90 rfl) rfl
theorem q1150 : (Jvm.Cond.methodLink "AheadRowsLaw" (122 : Nat) ({ cls := "AheadRows", name := "guess", desc := "(I)I" } : Jvm.MethodName)) ∈ lw_all := lw_g (lw_at lw_m5 94 rfl) rfl
theorem q1177 : (Jvm.Cond.methodLink "AheadRowsLaw" (126 : Nat) ({ cls := "AheadRows", name := "found", desc := "()I" } : Jvm.MethodName)) ∈ lw_all := lw_g (lw_at lw_m5 121 rfl) rfl
theorem q1181 : (Jvm.Cond.methodLink "AheadRowsLaw" (130 : Nat) ({ cls := "AheadRows", name := "drawn", desc := "(III)I" } : Jvm.MethodName)) ∈ lw_all := lw_g (lw_at lw_m5 125 rfl) rfl
theorem q1199 : (Jvm.Cond.methodLink "AheadRowsLaw" (134 : Nat) ({ cls := "AheadRows", name := "image", desc := "()I" } : Jvm.MethodName)) ∈ lw_all := lw_g (lw_at lw_m5 143 rfl) rfl
theorem q1204 : (Jvm.Cond.methodLink "AheadRowsLaw" (138 : Nat) ({ cls := "AheadRows", name := "restore", desc := "()I" } : Jvm.MethodName)) ∈ lw_all := lw_g (lw_at lw_m5 148 rfl) rfl
theorem q1208 : (Jvm.Cond.methodLink "AheadRowsLaw" (142 : Nat) ({ cls := "AheadRows", name := "count", desc := "(I)I" } : Jvm.MethodName)) ∈ lw_all := lw_g (lw_at lw_m5 152 rfl) rfl
theorem q1220 : (Jvm.Cond.methodLink "AheadRowsLaw" (146 : Nat) ({ cls := "AheadRows", name := "digest", desc := "()J" } : Jvm.MethodName)) ∈ lw_all := lw_g (lw_at lw_m5 164 rfl) rfl
theorem q1235 : (Jvm.Cond.classLink "AheadRowsLaw" (10 : Nat) "AheadRowsModel") ∈ lw_all := lw_g (lw_at lw_m5 179 rfl) rfl
theorem q1237 : (Jvm.Cond.methodLink "AheadRowsLaw" (12 : Nat) ({ cls := "AheadRowsModel", name := "<init>", desc := "()V" } : Jvm.MethodName)) ∈ lw_all := lw_g (lw_at lw_m5 181 rfl) rfl
theorem q1343 : (Jvm.Cond.methodLink "AheadRowsLaw" (17 : Nat) ({ cls := "AheadRowsModel", name := "letter", desc := "(I)I" } : Jvm.MethodName)) ∈ lw_all := lw_g (lw_at lw_m6 47 rfl) rfl
theorem q1352 : (Jvm.Cond.methodLink "AheadRowsLaw" (22 : Nat) ({ cls := "AheadRowsModel", name := "blank", desc := "()I" } : Jvm.MethodName)) ∈ lw_all := lw_g (lw_at lw_m6 56 rfl) rfl
theorem q1356 : (Jvm.Cond.methodLink "AheadRowsLaw" (26 : Nat) ({ cls := "AheadRowsModel", name := "fault", desc := "()I" } : Jvm.MethodName)) ∈ lw_all := lw_g (lw_at lw_m6 60 rfl) rfl
theorem q1389 : (Jvm.Cond.methodLink "AheadRowsLaw" (30 : Nat) ({ cls := "AheadRowsModel", name := "rows", desc := "()I" } : Jvm.MethodName)) ∈ lw_all := lw_g (lw_at lw_m6 93 rfl) rfl
theorem q1398 : (Jvm.Cond.methodLink "AheadRowsLaw" (35 : Nat) ({ cls := "AheadRowsModel", name := "row", desc := "(II)I" } : Jvm.MethodName)) ∈ lw_all := lw_g (lw_at lw_m6 102 rfl) rfl
theorem q1407 : (Jvm.Cond.methodLink "AheadRowsLaw" (39 : Nat) ({ cls := "AheadRowsModel", name := "as", desc := "(II)I" } : Jvm.MethodName)) ∈ lw_all := lw_g (lw_at lw_m6 111 rfl) rfl
theorem q1414 : (Jvm.Cond.methodLink "AheadRowsLaw" (43 : Nat) ({ cls := "AheadRowsModel", name := "term", desc := "(II)I" } : Jvm.MethodName)) ∈ lw_all := lw_g (lw_at lw_m6 118 rfl) rfl
theorem q1452 : (Jvm.Cond.methodLink "AheadRowsLaw" (48 : Nat) ({ cls := "AheadRowsModel", name := "by", desc := "(III)I" } : Jvm.MethodName)) ∈ lw_all := lw_g (lw_at lw_m6 156 rfl) rfl
theorem q1490 : (Jvm.Cond.methodLink "AheadRowsLaw" (52 : Nat) ({ cls := "AheadRowsModel", name := "lap", desc := "(III)I" } : Jvm.MethodName)) ∈ lw_all := lw_g (lw_at lw_m6 194 rfl) rfl
theorem q1514 : (Jvm.Cond.methodLink "AheadRowsLaw" (56 : Nat) ({ cls := "AheadRowsModel", name := "least", desc := "(III)I" } : Jvm.MethodName)) ∈ lw_all := lw_g (lw_at lw_m6 218 rfl) rfl
theorem q1553 : (Jvm.Cond.methodLink "AheadRowsLaw" (60 : Nat) ({ cls := "AheadRowsModel", name := "rule", desc := "(II)I" } : Jvm.MethodName)) ∈ lw_all := lw_g (lw_at lw_m7 17 rfl) rfl
theorem q1583 : (Jvm.Cond.methodLink "AheadRowsLaw" (64 : Nat) ({ cls := "AheadRowsModel", name := "roots", desc := "(II)I" } : Jvm.MethodName)) ∈ lw_all := lw_g (lw_at lw_m7 47 rfl) rfl
theorem q1599 : (Jvm.Cond.methodLink "AheadRowsLaw" (68 : Nat) ({ cls := "AheadRowsModel", name := "noughts", desc := "(I)I" } : Jvm.MethodName)) ∈ lw_all := lw_g (lw_at lw_m7 63 rfl) rfl
theorem q1607 : (Jvm.Cond.methodLink "AheadRowsLaw" (72 : Nat) ({ cls := "AheadRowsModel", name := "ends", desc := "(I)I" } : Jvm.MethodName)) ∈ lw_all := lw_g (lw_at lw_m7 71 rfl) rfl
theorem q1611 : (Jvm.Cond.methodLink "AheadRowsLaw" (76 : Nat) ({ cls := "AheadRowsModel", name := "open", desc := "(II)I" } : Jvm.MethodName)) ∈ lw_all := lw_g (lw_at lw_m7 75 rfl) rfl
theorem q1623 : (Jvm.Cond.methodLink "AheadRowsLaw" (80 : Nat) ({ cls := "AheadRowsModel", name := "meets", desc := "(III)I" } : Jvm.MethodName)) ∈ lw_all := lw_g (lw_at lw_m7 87 rfl) rfl
theorem q1631 : (Jvm.Cond.methodLink "AheadRowsLaw" (85 : Nat) ({ cls := "AheadRowsModel", name := "told", desc := "(IIII)I" } : Jvm.MethodName)) ∈ lw_all := lw_g (lw_at lw_m7 95 rfl) rfl
theorem q1649 : (Jvm.Cond.methodLink "AheadRowsLaw" (89 : Nat) ({ cls := "AheadRowsModel", name := "sum", desc := "(II)I" } : Jvm.MethodName)) ∈ lw_all := lw_g (lw_at lw_m7 113 rfl) rfl
theorem q1653 : (Jvm.Cond.methodLink "AheadRowsLaw" (93 : Nat) ({ cls := "AheadRowsModel", name := "product", desc := "(II)I" } : Jvm.MethodName)) ∈ lw_all := lw_g (lw_at lw_m7 117 rfl) rfl
theorem q1657 : (Jvm.Cond.methodLink "AheadRowsLaw" (97 : Nat) ({ cls := "AheadRowsModel", name := "each", desc := "(III)I" } : Jvm.MethodName)) ∈ lw_all := lw_g (lw_at lw_m7 121 rfl) rfl
theorem q1661 : (Jvm.Cond.methodLink "AheadRowsLaw" (101 : Nat) ({ cls := "AheadRowsModel", name := "step", desc := "(I)I" } : Jvm.MethodName)) ∈ lw_all := lw_g (lw_at lw_m7 125 rfl) rfl
theorem q1665 : (Jvm.Cond.methodLink "AheadRowsLaw" (105 : Nat) ({ cls := "AheadRowsModel", name := "put", desc := "(III)I" } : Jvm.MethodName)) ∈ lw_all := lw_g (lw_at lw_m7 129 rfl) rfl
theorem q1669 : (Jvm.Cond.methodLink "AheadRowsLaw" (109 : Nat) ({ cls := "AheadRowsModel", name := "drop", desc := "()I" } : Jvm.MethodName)) ∈ lw_all := lw_g (lw_at lw_m7 133 rfl) rfl
theorem q1673 : (Jvm.Cond.methodLink "AheadRowsLaw" (113 : Nat) ({ cls := "AheadRowsModel", name := "ease", desc := "(I)I" } : Jvm.MethodName)) ∈ lw_all := lw_g (lw_at lw_m7 137 rfl) rfl
theorem q1697 : (Jvm.Cond.methodLink "AheadRowsLaw" (117 : Nat) ({ cls := "AheadRowsModel", name := "give", desc := "(I)I" } : Jvm.MethodName)) ∈ lw_all := lw_g (lw_at lw_m7 161 rfl) rfl
theorem q1701 : (Jvm.Cond.methodLink "AheadRowsLaw" (121 : Nat) ({ cls := "AheadRowsModel", name := "forget", desc := "()I" } : Jvm.MethodName)) ∈ lw_all := lw_g (lw_at lw_m7 165 rfl) rfl
theorem q1705 : (Jvm.Cond.methodLink "AheadRowsLaw" (125 : Nat) ({ cls := "AheadRowsModel", name := "guess", desc := "(I)I" } : Jvm.MethodName)) ∈ lw_all := lw_g (lw_at lw_m7 169 rfl) rfl
theorem q1721 : (Jvm.Cond.methodLink "AheadRowsLaw" (129 : Nat) ({ cls := "AheadRowsModel", name := "found", desc := "()I" } : Jvm.MethodName)) ∈ lw_all := lw_g (lw_at lw_m7 185 rfl) rfl
theorem q1725 : (Jvm.Cond.methodLink "AheadRowsLaw" (133 : Nat) ({ cls := "AheadRowsModel", name := "drawn", desc := "(III)I" } : Jvm.MethodName)) ∈ lw_all := lw_g (lw_at lw_m7 189 rfl) rfl
theorem q1741 : (Jvm.Cond.methodLink "AheadRowsLaw" (137 : Nat) ({ cls := "AheadRowsModel", name := "image", desc := "()I" } : Jvm.MethodName)) ∈ lw_all := lw_g (lw_at lw_m7 205 rfl) rfl
theorem q1748 : (Jvm.Cond.methodLink "AheadRowsLaw" (141 : Nat) ({ cls := "AheadRowsModel", name := "restore", desc := "()I" } : Jvm.MethodName)) ∈ lw_all := lw_g (lw_at lw_m7 212 rfl) rfl
theorem q1752 : (Jvm.Cond.methodLink "AheadRowsLaw" (145 : Nat) ({ cls := "AheadRowsModel", name := "count", desc := "(I)I" } : Jvm.MethodName)) ∈ lw_all := lw_g (lw_at lw_m7 216 rfl) rfl
theorem q1764 : (Jvm.Cond.methodLink "AheadRowsLaw" (150 : Nat) ({ cls := "AheadRowsModel", name := "digest", desc := "()J" } : Jvm.MethodName)) ∈ lw_all := lw_g (lw_at lw_m7 228 rfl) rfl
theorem q124 : (Jvm.Cond.initialized "AheadRows$Mix") ∈ lw_all := lw_g (lw_at lw_m1 28 rfl) rfl
set_option maxRecDepth 100000
theorem q748 : (Jvm.Cond.laysStatic "AheadRows$Mix" "PRODUCT" "LAheadRows$Mix;") ∈ lw_tbl := lw_at lw_m3 172 rfl
theorem q753 : (Jvm.Cond.laysStatic "AheadRows$Mix" "SUM" "LAheadRows$Mix;") ∈ lw_tbl := lw_at lw_m3 177 rfl
theorem q755 : (Jvm.Cond.declares ({ cls := "AheadRows$Mix", name := "of", desc := "(JJ)J" } : Jvm.MethodName)) ∈ lw_tbl := lw_at lw_m3 179 rfl
theorem q756 : (Jvm.Cond.sameMethod "AheadRows$Mix" "AheadRows$Mix" "of" "(JJ)J") ∈ lw_all := lw_g (lw_at lw_m3 180 rfl) rfl
theorem q934 : (Jvm.Cond.declares ({ cls := "AheadRows$Mix", name := "ruleBy", desc := "(LAheadRows$Told;LAheadRows$Told;)[I" } : Jvm.MethodName)) ∈ lw_tbl := lw_at lw_m4 118 rfl
theorem q935 : (Jvm.Cond.sameMethod "AheadRows$Mix" "AheadRows$Mix" "ruleBy" "(LAheadRows$Told;LAheadRows$Told;)[I") ∈ lw_all := lw_g (lw_at lw_m4 119 rfl) rfl
theorem q1100 : (Jvm.Cond.declares ({ cls := "AheadRows$Mix", name := "isEasy", desc := "(LAheadRows$Told;LAheadRows$Told;)Z" } : Jvm.MethodName)) ∈ lw_tbl := lw_at lw_m5 44 rfl
theorem q1101 : (Jvm.Cond.sameMethod "AheadRows$Mix" "AheadRows$Mix" "isEasy" "(LAheadRows$Told;LAheadRows$Told;)Z") ∈ lw_all := lw_g (lw_at lw_m5 45 rfl) rfl
theorem q1113 : (Jvm.Cond.declares ({ cls := "AheadRows$Mix", name := "eased", desc := "(LAheadRows$Told;LAheadRows$Told;)LAheadRows$Told;" } : Jvm.MethodName)) ∈ lw_tbl := lw_at lw_m5 57 rfl
theorem q1114 : (Jvm.Cond.sameMethod "AheadRows$Mix" "AheadRows$Mix" "eased" "(LAheadRows$Told;LAheadRows$Told;)LAheadRows$Told;") ∈ lw_all := lw_g (lw_at lw_m5 58 rfl) rfl
theorem q1822 : (Jvm.Cond.castable "AheadRows$Mix" "java/lang/Object") ∈ lw_tbl := lw_at lw_m8 46 rfl
theorem q1825 : (Jvm.Cond.castable "[B" "java/lang/Object") ∈ lw_tbl := lw_at lw_m8 49 rfl
set_option maxRecDepth 100000
theorem q903 : (Jvm.Cond.sameMethod "[I" "java/lang/Object" "clone" "()Ljava/lang/Object;") ∈ lw_all := lw_g (lw_at lw_m4 87 rfl) rfl
set_option maxRecDepth 100000
theorem q906 : (Jvm.Cond.selects "[I" ({ cls := "[I", name := "clone", desc := "()Ljava/lang/Object;" } : Jvm.MethodName) ({ cls := "java/lang/Object", name := "clone", desc := "()Ljava/lang/Object;" } : Jvm.MethodName)) ∈ lw_all := lw_g (lw_at lw_m4 90 rfl) rfl
theorem q907 : (Jvm.Cond.castable "[I" "java/lang/Cloneable") ∈ lw_tbl := lw_at lw_m4 91 rfl
theorem q1824 : (Jvm.Cond.castable "[I" "java/lang/Object") ∈ lw_tbl := lw_at lw_m8 48 rfl
theorem q1823 : (Jvm.Cond.castable "[LAheadRows$Wheel;" "java/lang/Object") ∈ lw_tbl := lw_at lw_m8 47 rfl
set_option maxRecDepth 100000
theorem q1819 : (Jvm.Cond.sameMethod "[Ljava/lang/Object;" "java/lang/Object" "getClass" "()Ljava/lang/Class;") ∈ lw_all := lw_g (lw_at lw_m8 43 rfl) rfl
set_option maxRecDepth 100000
theorem q1820 : (Jvm.Cond.selects "[Ljava/lang/Object;" ({ cls := "java/lang/Object", name := "getClass", desc := "()Ljava/lang/Class;" } : Jvm.MethodName) ({ cls := "java/lang/Object", name := "getClass", desc := "()Ljava/lang/Class;" } : Jvm.MethodName)) ∈ lw_all := lw_g (lw_at lw_m8 44 rfl) rfl
theorem q1826 : (Jvm.Cond.castable "[Ljava/lang/Object;" "java/lang/Object") ∈ lw_tbl := lw_at lw_m8 50 rfl
theorem q1827 : (Jvm.Cond.castable "[Z" "java/lang/Object") ∈ lw_tbl := lw_at lw_m8 51 rfl
set_option maxRecDepth 100000
theorem q123 : (Jvm.Cond.initialized "java/lang/Enum") ∈ lw_all := lw_g (lw_at lw_m1 27 rfl) rfl
set_option maxRecDepth 100000
theorem q115 : (Jvm.Cond.initialized "java/lang/System") ∈ lw_all := lw_g (lw_at lw_m1 19 rfl) rfl
set_option maxRecDepth 100000
theorem q485 : (Jvm.Cond.static ({ cls := "java/lang/System", name := "arraycopy", desc := "(Ljava/lang/Object;ILjava/lang/Object;II)V" } : Jvm.MethodName)) ∈ lw_all := lw_g (lw_at lw_m2 149 rfl) rfl
theorem q486 : (Jvm.Cond.native ({ cls := "java/lang/System", name := "arraycopy", desc := "(Ljava/lang/Object;ILjava/lang/Object;II)V" } : Jvm.MethodName)) ∈ lw_all := lw_g (lw_at lw_m2 150 rfl) rfl
theorem q162 : (Jvm.Cond.arrayOver (Jvm.ClassFile.FieldType.object "AheadRows$Wheel")) ∈ lw_tbl := lw_at lw_m1 66 rfl
set_option maxRecDepth 100000
theorem q194 : (Jvm.Cond.arrayClass Jvm.ClassFile.FieldType.int) ∈ lw_all := lw_g (lw_at lw_m1 98 rfl) rfl
theorem q195 : (Jvm.Cond.arrayClass Jvm.ClassFile.FieldType.byte) ∈ lw_all := lw_g (lw_at lw_m1 99 rfl) rfl
theorem q479 : (Jvm.Cond.arrayOver (Jvm.ClassFile.FieldType.object "java/lang/Object")) ∈ lw_tbl := lw_at lw_m2 143 rfl
theorem q1342 : (Jvm.Cond.arrayClass Jvm.ClassFile.FieldType.boolean) ∈ lw_all := lw_g (lw_at lw_m6 46 rfl) rfl
