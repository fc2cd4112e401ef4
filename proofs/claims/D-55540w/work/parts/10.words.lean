theorem q174 : (Jvm.Cond.arrayClass Jvm.ClassFile.FieldType.int) ∈ lw_all := lw_g (lw_at lw_m1 106 rfl) rfl
set_option maxRecDepth 100000
theorem q182 : (Jvm.Cond.arrayOver (Jvm.ClassFile.FieldType.object "java/lang/Object")) ∈ lw_tbl := lw_at lw_m1 114 rfl
theorem q226 : (Jvm.Cond.arrayClass Jvm.ClassFile.FieldType.byte) ∈ lw_all := lw_g (lw_at lw_m1 158 rfl) rfl
theorem q906 : (Jvm.Cond.arrayClass Jvm.ClassFile.FieldType.boolean) ∈ lw_all := lw_g (lw_at lw_m4 118 rfl) rfl
theorem q546 : (Jvm.Cond.interfaceMethod "TulipLines$Change" "TulipLines$Change" "does" "(LTulipLines$Bed;)I") ∈ lw_tbl := lw_at lw_m2 238 rfl
set_option maxRecDepth 100000
theorem q547 : (Jvm.Cond.declares ({ cls := "TulipLines$Change", name := "does", desc := "(LTulipLines$Bed;)I" } : Jvm.MethodName)) ∈ lw_tbl := lw_at lw_m2 239 rfl
theorem q950 : (Jvm.Cond.interfaceMethod "TulipLines$Measure" "TulipLines$Measure" "of" "(Ljava/lang/Object;)I") ∈ lw_tbl := lw_at lw_m4 162 rfl
set_option maxRecDepth 100000
theorem q951 : (Jvm.Cond.declares ({ cls := "TulipLines$Measure", name := "of", desc := "(Ljava/lang/Object;)I" } : Jvm.MethodName)) ∈ lw_tbl := lw_at lw_m4 163 rfl
theorem q996 : (Jvm.Cond.sameMethod "[B" "java/lang/Object" "clone" "()Ljava/lang/Object;") ∈ lw_all := lw_g (lw_at lw_m4 208 rfl) rfl
set_option maxRecDepth 100000
theorem q999 : (Jvm.Cond.selects "[B" ({ cls := "[B", name := "clone", desc := "()Ljava/lang/Object;" } : Jvm.MethodName) ({ cls := "java/lang/Object", name := "clone", desc := "()Ljava/lang/Object;" } : Jvm.MethodName)) ∈ lw_all := lw_g (lw_at lw_m4 211 rfl) rfl
theorem q1000 : (Jvm.Cond.castable "[B" "java/lang/Cloneable") ∈ lw_tbl := lw_at lw_m4 212 rfl
theorem q1838 : (Jvm.Cond.castable "[B" "java/lang/Object") ∈ lw_tbl := lw_at lw_m8 90 rfl
theorem q1836 : (Jvm.Cond.castable "[I" "java/lang/Object") ∈ lw_tbl := lw_at lw_m8 88 rfl
set_option maxRecDepth 100000
theorem q1833 : (Jvm.Cond.sameMethod "[Ljava/lang/Object;" "java/lang/Object" "getClass" "()Ljava/lang/Class;") ∈ lw_all := lw_g (lw_at lw_m8 85 rfl) rfl
set_option maxRecDepth 100000
theorem q1834 : (Jvm.Cond.selects "[Ljava/lang/Object;" ({ cls := "java/lang/Object", name := "getClass", desc := "()Ljava/lang/Class;" } : Jvm.MethodName) ({ cls := "java/lang/Object", name := "getClass", desc := "()Ljava/lang/Class;" } : Jvm.MethodName)) ∈ lw_all := lw_g (lw_at lw_m8 86 rfl) rfl
theorem q1837 : (Jvm.Cond.castable "[Ljava/lang/Object;" "java/lang/Object") ∈ lw_tbl := lw_at lw_m8 89 rfl
theorem q1839 : (Jvm.Cond.castable "[Z" "java/lang/Object") ∈ lw_tbl := lw_at lw_m8 91 rfl
set_option maxRecDepth 100000
theorem q95 : (Jvm.Cond.initialized "java/lang/Number") ∈ lw_all := lw_g (lw_at lw_m1 27 rfl) rfl
set_option maxRecDepth 100000
theorem q89 : (Jvm.Cond.initialized "java/lang/System") ∈ lw_all := lw_g (lw_at lw_m1 21 rfl) rfl
set_option maxRecDepth 100000
theorem q526 : (Jvm.Cond.static ({ cls := "java/lang/System", name := "arraycopy", desc := "(Ljava/lang/Object;ILjava/lang/Object;II)V" } : Jvm.MethodName)) ∈ lw_all := lw_g (lw_at lw_m2 218 rfl) rfl
theorem q527 : (Jvm.Cond.native ({ cls := "java/lang/System", name := "arraycopy", desc := "(Ljava/lang/Object;ILjava/lang/Object;II)V" } : Jvm.MethodName)) ∈ lw_all := lw_g (lw_at lw_m2 219 rfl) rfl
theorem q397 : (Jvm.Cond.interfaceMethod "java/util/Iterator" "java/util/Iterator" "hasNext" "()Z") ∈ lw_tbl := lw_at lw_m2 89 rfl
set_option maxRecDepth 100000
theorem q398 : (Jvm.Cond.declares ({ cls := "java/util/Iterator", name := "hasNext", desc := "()Z" } : Jvm.MethodName)) ∈ lw_tbl := lw_at lw_m2 90 rfl
theorem q407 : (Jvm.Cond.interfaceMethod "java/util/Iterator" "java/util/Iterator" "next" "()Ljava/lang/Object;") ∈ lw_tbl := lw_at lw_m2 99 rfl
theorem q408 : (Jvm.Cond.declares ({ cls := "java/util/Iterator", name := "next", desc := "()Ljava/lang/Object;" } : Jvm.MethodName)) ∈ lw_tbl := lw_at lw_m2 100 rfl
theorem q68 : (Jvm.Cond.initialized "TulipLinesLaw") ∈ lw_all := lw_g (lw_at lw_m1 0 rfl) rfl
set_option maxRecDepth 100000
theorem q102 : (Jvm.Cond.classLink "TulipLinesLaw" (7 : Nat) "TulipLines") ∈ lw_all := lw_g (lw_at lw_m1 34 rfl) rfl
theorem q104 : (Jvm.Cond.methodLink "TulipLinesLaw" (9 : Nat) ({ cls := "TulipLines", name := "<init>", desc := "()V" } : Jvm.MethodName)) ∈ lw_all := lw_g (lw_at lw_m1 36 rfl) rfl
theorem q253 : (Jvm.Cond.methodLink "TulipLinesLaw" (13 : Nat) ({ cls := "TulipLines", name := "plant", desc := "(I)I" } : Jvm.MethodName)) ∈ lw_all := lw_g (lw_at lw_m1 185 rfl) rfl
theorem q597 : (Jvm.Cond.methodLink "TulipLinesLaw" (18 : Nat) ({ cls := "TulipLines", name := "cross", desc := "(III)I" } : Jvm.MethodName)) ∈ lw_all := lw_g (lw_at lw_m3 49 rfl) rfl
theorem q671 : (Jvm.Cond.methodLink "TulipLinesLaw" (23 : Nat) ({ cls := "TulipLines", name := "die", desc := "(I)I" } : Jvm.MethodName)) ∈ lw_all := lw_g (lw_at lw_m3 123 rfl) rfl
theorem q684 : (Jvm.Cond.methodLink "TulipLinesLaw" (27 : Nat) ({ cls := "TulipLines", name := "want", desc := "(I)I" } : Jvm.MethodName)) ∈ lw_all := lw_g (lw_at lw_m3 136 rfl) rfl
theorem q700 : (Jvm.Cond.methodLink "TulipLinesLaw" (31 : Nat) ({ cls := "TulipLines", name := "heavy", desc := "(II)I" } : Jvm.MethodName)) ∈ lw_all := lw_g (lw_at lw_m3 152 rfl) rfl
theorem q713 : (Jvm.Cond.methodLink "TulipLinesLaw" (36 : Nat) ({ cls := "TulipLines", name := "luck", desc := "(I)I" } : Jvm.MethodName)) ∈ lw_all := lw_g (lw_at lw_m3 165 rfl) rfl
theorem q726 : (Jvm.Cond.methodLink "TulipLinesLaw" (40 : Nat) ({ cls := "TulipLines", name := "seed", desc := "(I)I" } : Jvm.MethodName)) ∈ lw_all := lw_g (lw_at lw_m3 178 rfl) rfl
theorem q737 : (Jvm.Cond.methodLink "TulipLinesLaw" (44 : Nat) ({ cls := "TulipLines", name := "room", desc := "(I)I" } : Jvm.MethodName)) ∈ lw_all := lw_g (lw_at lw_m3 189 rfl) rfl
theorem q750 : (Jvm.Cond.methodLink "TulipLinesLaw" (48 : Nat) ({ cls := "TulipLines", name := "years", desc := "(I)I" } : Jvm.MethodName)) ∈ lw_all := lw_g (lw_at lw_m3 202 rfl) rfl
theorem q793 : (Jvm.Cond.methodLink "TulipLinesLaw" (52 : Nat) ({ cls := "TulipLines", name := "bulbOf", desc := "(II)I" } : Jvm.MethodName)) ∈ lw_all := lw_g (lw_at lw_m4 5 rfl) rfl
theorem q813 : (Jvm.Cond.methodLink "TulipLinesLaw" (56 : Nat) ({ cls := "TulipLines", name := "areKin", desc := "(II)I" } : Jvm.MethodName)) ∈ lw_all := lw_g (lw_at lw_m4 25 rfl) rfl
theorem q870 : (Jvm.Cond.methodLink "TulipLinesLaw" (60 : Nat) ({ cls := "TulipLines", name := "areKinAgain", desc := "(II)I" } : Jvm.MethodName)) ∈ lw_all := lw_g (lw_at lw_m4 82 rfl) rfl
theorem q882 : (Jvm.Cond.methodLink "TulipLinesLaw" (64 : Nat) ({ cls := "TulipLines", name := "forebears", desc := "(I)I" } : Jvm.MethodName)) ∈ lw_all := lw_g (lw_at lw_m4 94 rfl) rfl
theorem q888 : (Jvm.Cond.methodLink "TulipLinesLaw" (68 : Nat) ({ cls := "TulipLines", name := "lineOf", desc := "(II)I" } : Jvm.MethodName)) ∈ lw_all := lw_g (lw_at lw_m4 100 rfl) rfl
theorem q897 : (Jvm.Cond.methodLink "TulipLinesLaw" (72 : Nat) ({ cls := "TulipLines", name := "apart", desc := "(II)I" } : Jvm.MethodName)) ∈ lw_all := lw_g (lw_at lw_m4 109 rfl) rfl
theorem q901 : (Jvm.Cond.methodLink "TulipLinesLaw" (76 : Nat) ({ cls := "TulipLines", name := "unlike", desc := "()I" } : Jvm.MethodName)) ∈ lw_all := lw_g (lw_at lw_m4 113 rfl) rfl
theorem q907 : (Jvm.Cond.methodLink "TulipLinesLaw" (81 : Nat) ({ cls := "TulipLines", name := "ranked", desc := "(I)I" } : Jvm.MethodName)) ∈ lw_all := lw_g (lw_at lw_m4 119 rfl) rfl
theorem q912 : (Jvm.Cond.methodLink "TulipLinesLaw" (85 : Nat) ({ cls := "TulipLines", name := "would", desc := "(IIII)I" } : Jvm.MethodName)) ∈ lw_all := lw_g (lw_at lw_m4 124 rfl) rfl
theorem q917 : (Jvm.Cond.methodLink "TulipLinesLaw" (90 : Nat) ({ cls := "TulipLines", name := "bestPoint", desc := "(II)I" } : Jvm.MethodName)) ∈ lw_all := lw_g (lw_at lw_m4 129 rfl) rfl
theorem q956 : (Jvm.Cond.methodLink "TulipLinesLaw" (94 : Nat) ({ cls := "TulipLines", name := "bestPair", desc := "(I)I" } : Jvm.MethodName)) ∈ lw_all := lw_g (lw_at lw_m4 168 rfl) rfl
theorem q960 : (Jvm.Cond.methodLink "TulipLinesLaw" (98 : Nat) ({ cls := "TulipLines", name := "worthIn", desc := "(I)I" } : Jvm.MethodName)) ∈ lw_all := lw_g (lw_at lw_m4 172 rfl) rfl
theorem q968 : (Jvm.Cond.methodLink "TulipLinesLaw" (102 : Nat) ({ cls := "TulipLines", name := "describe", desc := "(I)I" } : Jvm.MethodName)) ∈ lw_all := lw_g (lw_at lw_m4 180 rfl) rfl
theorem q1159 : (Jvm.Cond.methodLink "TulipLinesLaw" (106 : Nat) ({ cls := "TulipLines", name := "tell", desc := "()I" } : Jvm.MethodName)) ∈ lw_all := lw_g (lw_at lw_m5 131 rfl) rfl
theorem q1164 : (Jvm.Cond.methodLink "TulipLinesLaw" (110 : Nat) ({ cls := "TulipLines", name := "sign", desc := "(I)I" } : Jvm.MethodName)) ∈ lw_all := lw_g (lw_at lw_m5 136 rfl) rfl
theorem q1183 : (Jvm.Cond.methodLink "TulipLinesLaw" (114 : Nat) ({ cls := "TulipLines", name := "append", desc := "(I)I" } : Jvm.MethodName)) ∈ lw_all := lw_g (lw_at lw_m5 155 rfl) rfl
theorem q1187 : (Jvm.Cond.methodLink "TulipLinesLaw" (118 : Nat) ({ cls := "TulipLines", name := "read", desc := "()I" } : Jvm.MethodName)) ∈ lw_all := lw_g (lw_at lw_m5 159 rfl) rfl
theorem q1347 : (Jvm.Cond.methodLink "TulipLinesLaw" (122 : Nat) ({ cls := "TulipLines", name := "refusal", desc := "(I)I" } : Jvm.MethodName)) ∈ lw_all := lw_g (lw_at lw_m6 79 rfl) rfl
theorem q1351 : (Jvm.Cond.methodLink "TulipLinesLaw" (126 : Nat) ({ cls := "TulipLines", name := "account", desc := "(I)I" } : Jvm.MethodName)) ∈ lw_all := lw_g (lw_at lw_m6 83 rfl) rfl
theorem q1364 : (Jvm.Cond.methodLink "TulipLinesLaw" (130 : Nat) ({ cls := "TulipLines", name := "isWell", desc := "()I" } : Jvm.MethodName)) ∈ lw_all := lw_g (lw_at lw_m6 96 rfl) rfl
theorem q1374 : (Jvm.Cond.methodLink "TulipLinesLaw" (134 : Nat) ({ cls := "TulipLines", name := "mean", desc := "()I" } : Jvm.MethodName)) ∈ lw_all := lw_g (lw_at lw_m6 106 rfl) rfl
theorem q1388 : (Jvm.Cond.methodLink "TulipLinesLaw" (138 : Nat) ({ cls := "TulipLines", name := "undo", desc := "()I" } : Jvm.MethodName)) ∈ lw_all := lw_g (lw_at lw_m6 120 rfl) rfl
theorem q1411 : (Jvm.Cond.methodLink "TulipLinesLaw" (142 : Nat) ({ cls := "TulipLines", name := "save", desc := "()I" } : Jvm.MethodName)) ∈ lw_all := lw_g (lw_at lw_m6 143 rfl) rfl
theorem q1415 : (Jvm.Cond.methodLink "TulipLinesLaw" (146 : Nat) ({ cls := "TulipLines", name := "restore", desc := "()I" } : Jvm.MethodName)) ∈ lw_all := lw_g (lw_at lw_m6 147 rfl) rfl
theorem q1426 : (Jvm.Cond.classLink "TulipLinesLaw" (10 : Nat) "TulipLinesModel") ∈ lw_all := lw_g (lw_at lw_m6 158 rfl) rfl
theorem q1428 : (Jvm.Cond.methodLink "TulipLinesLaw" (12 : Nat) ({ cls := "TulipLinesModel", name := "<init>", desc := "()V" } : Jvm.MethodName)) ∈ lw_all := lw_g (lw_at lw_m6 160 rfl) rfl
theorem q1496 : (Jvm.Cond.methodLink "TulipLinesLaw" (17 : Nat) ({ cls := "TulipLinesModel", name := "plant", desc := "(I)I" } : Jvm.MethodName)) ∈ lw_all := lw_g (lw_at lw_m6 228 rfl) rfl
theorem q1535 : (Jvm.Cond.methodLink "TulipLinesLaw" (22 : Nat) ({ cls := "TulipLinesModel", name := "cross", desc := "(III)I" } : Jvm.MethodName)) ∈ lw_all := lw_g (lw_at lw_m7 27 rfl) rfl
theorem q1565 : (Jvm.Cond.methodLink "TulipLinesLaw" (26 : Nat) ({ cls := "TulipLinesModel", name := "die", desc := "(I)I" } : Jvm.MethodName)) ∈ lw_all := lw_g (lw_at lw_m7 57 rfl) rfl
theorem q1573 : (Jvm.Cond.methodLink "TulipLinesLaw" (30 : Nat) ({ cls := "TulipLinesModel", name := "want", desc := "(I)I" } : Jvm.MethodName)) ∈ lw_all := lw_g (lw_at lw_m7 65 rfl) rfl
theorem q1585 : (Jvm.Cond.methodLink "TulipLinesLaw" (35 : Nat) ({ cls := "TulipLinesModel", name := "heavy", desc := "(II)I" } : Jvm.MethodName)) ∈ lw_all := lw_g (lw_at lw_m7 77 rfl) rfl
theorem q1594 : (Jvm.Cond.methodLink "TulipLinesLaw" (39 : Nat) ({ cls := "TulipLinesModel", name := "luck", desc := "(I)I" } : Jvm.MethodName)) ∈ lw_all := lw_g (lw_at lw_m7 86 rfl) rfl
theorem q1602 : (Jvm.Cond.methodLink "TulipLinesLaw" (43 : Nat) ({ cls := "TulipLinesModel", name := "seed", desc := "(I)I" } : Jvm.MethodName)) ∈ lw_all := lw_g (lw_at lw_m7 94 rfl) rfl
theorem q1607 : (Jvm.Cond.methodLink "TulipLinesLaw" (47 : Nat) ({ cls := "TulipLinesModel", name := "room", desc := "(I)I" } : Jvm.MethodName)) ∈ lw_all := lw_g (lw_at lw_m7 99 rfl) rfl
theorem q1615 : (Jvm.Cond.methodLink "TulipLinesLaw" (51 : Nat) ({ cls := "TulipLinesModel", name := "years", desc := "(I)I" } : Jvm.MethodName)) ∈ lw_all := lw_g (lw_at lw_m7 107 rfl) rfl
theorem q1640 : (Jvm.Cond.methodLink "TulipLinesLaw" (55 : Nat) ({ cls := "TulipLinesModel", name := "bulbOf", desc := "(II)I" } : Jvm.MethodName)) ∈ lw_all := lw_g (lw_at lw_m7 132 rfl) rfl
theorem q1651 : (Jvm.Cond.methodLink "TulipLinesLaw" (59 : Nat) ({ cls := "TulipLinesModel", name := "areKin", desc := "(II)I" } : Jvm.MethodName)) ∈ lw_all := lw_g (lw_at lw_m7 143 rfl) rfl
theorem q1659 : (Jvm.Cond.methodLink "TulipLinesLaw" (63 : Nat) ({ cls := "TulipLinesModel", name := "areKinAgain", desc := "(II)I" } : Jvm.MethodName)) ∈ lw_all := lw_g (lw_at lw_m7 151 rfl) rfl
theorem q1664 : (Jvm.Cond.methodLink "TulipLinesLaw" (67 : Nat) ({ cls := "TulipLinesModel", name := "forebears", desc := "(I)I" } : Jvm.MethodName)) ∈ lw_all := lw_g (lw_at lw_m7 156 rfl) rfl
theorem q1668 : (Jvm.Cond.methodLink "TulipLinesLaw" (71 : Nat) ({ cls := "TulipLinesModel", name := "lineOf", desc := "(II)I" } : Jvm.MethodName)) ∈ lw_all := lw_g (lw_at lw_m7 160 rfl) rfl
theorem q1677 : (Jvm.Cond.methodLink "TulipLinesLaw" (75 : Nat) ({ cls := "TulipLinesModel", name := "apart", desc := "(II)I" } : Jvm.MethodName)) ∈ lw_all := lw_g (lw_at lw_m7 169 rfl) rfl
theorem q1681 : (Jvm.Cond.methodLink "TulipLinesLaw" (80 : Nat) ({ cls := "TulipLinesModel", name := "unlike", desc := "()I" } : Jvm.MethodName)) ∈ lw_all := lw_g (lw_at lw_m7 173 rfl) rfl
theorem q1685 : (Jvm.Cond.methodLink "TulipLinesLaw" (84 : Nat) ({ cls := "TulipLinesModel", name := "ranked", desc := "(I)I" } : Jvm.MethodName)) ∈ lw_all := lw_g (lw_at lw_m7 177 rfl) rfl
theorem q1689 : (Jvm.Cond.methodLink "TulipLinesLaw" (89 : Nat) ({ cls := "TulipLinesModel", name := "would", desc := "(IIII)I" } : Jvm.MethodName)) ∈ lw_all := lw_g (lw_at lw_m7 181 rfl) rfl
theorem q1693 : (Jvm.Cond.methodLink "TulipLinesLaw" (93 : Nat) ({ cls := "TulipLinesModel", name := "bestPoint", desc := "(II)I" } : Jvm.MethodName)) ∈ lw_all := lw_g (lw_at lw_m7 185 rfl) rfl
theorem q1701 : (Jvm.Cond.methodLink "TulipLinesLaw" (97 : Nat) ({ cls := "TulipLinesModel", name := "bestPair", desc := "(I)I" } : Jvm.MethodName)) ∈ lw_all := lw_g (lw_at lw_m7 193 rfl) rfl
theorem q1705 : (Jvm.Cond.methodLink "TulipLinesLaw" (101 : Nat) ({ cls := "TulipLinesModel", name := "worthIn", desc := "(I)I" } : Jvm.MethodName)) ∈ lw_all := lw_g (lw_at lw_m7 197 rfl) rfl
theorem q1709 : (Jvm.Cond.methodLink "TulipLinesLaw" (105 : Nat) ({ cls := "TulipLinesModel", name := "describe", desc := "(I)I" } : Jvm.MethodName)) ∈ lw_all := lw_g (lw_at lw_m7 201 rfl) rfl
theorem q1721 : (Jvm.Cond.methodLink "TulipLinesLaw" (109 : Nat) ({ cls := "TulipLinesModel", name := "tell", desc := "()I" } : Jvm.MethodName)) ∈ lw_all := lw_g (lw_at lw_m7 213 rfl) rfl
theorem q1725 : (Jvm.Cond.methodLink "TulipLinesLaw" (113 : Nat) ({ cls := "TulipLinesModel", name := "sign", desc := "(I)I" } : Jvm.MethodName)) ∈ lw_all := lw_g (lw_at lw_m7 217 rfl) rfl
theorem q1729 : (Jvm.Cond.methodLink "TulipLinesLaw" (117 : Nat) ({ cls := "TulipLinesModel", name := "append", desc := "(I)I" } : Jvm.MethodName)) ∈ lw_all := lw_g (lw_at lw_m7 221 rfl) rfl
theorem q1735 : (Jvm.Cond.methodLink "TulipLinesLaw" (121 : Nat) ({ cls := "TulipLinesModel", name := "read", desc := "()I" } : Jvm.MethodName)) ∈ lw_all := lw_g (lw_at lw_m7 227 rfl) rfl
theorem q1765 : (Jvm.Cond.methodLink "TulipLinesLaw" (125 : Nat) ({ cls := "TulipLinesModel", name := "refusal", desc := "(I)I" } : Jvm.MethodName)) ∈ lw_all := lw_g (lw_at lw_m8 17 rfl) rfl
theorem q1769 : (Jvm.Cond.methodLink "TulipLinesLaw" (129 : Nat) ({ cls := "TulipLinesModel", name := "account", desc := "(I)I" } : Jvm.MethodName)) ∈ lw_all := lw_g (lw_at lw_m8 21 rfl) rfl
theorem q1785 : (Jvm.Cond.methodLink "TulipLinesLaw" (133 : Nat) ({ cls := "TulipLinesModel", name := "isWell", desc := "()I" } : Jvm.MethodName)) ∈ lw_all := lw_g (lw_at lw_m8 37 rfl) rfl
theorem q1789 : (Jvm.Cond.methodLink "TulipLinesLaw" (137 : Nat) ({ cls := "TulipLinesModel", name := "mean", desc := "()I" } : Jvm.MethodName)) ∈ lw_all := lw_g (lw_at lw_m8 41 rfl) rfl
theorem q1794 : (Jvm.Cond.methodLink "TulipLinesLaw" (141 : Nat) ({ cls := "TulipLinesModel", name := "undo", desc := "()I" } : Jvm.MethodName)) ∈ lw_all := lw_g (lw_at lw_m8 46 rfl) rfl
theorem q1798 : (Jvm.Cond.methodLink "TulipLinesLaw" (145 : Nat) ({ cls := "TulipLinesModel", name := "save", desc := "()I" } : Jvm.MethodName)) ∈ lw_all := lw_g (lw_at lw_m8 50 rfl) rfl
theorem q1802 : (Jvm.Cond.methodLink "TulipLinesLaw" (149 : Nat) ({ cls := "TulipLinesModel", name := "restore", desc := "()I" } : Jvm.MethodName)) ∈ lw_all := lw_g (lw_at lw_m8 54 rfl) rfl
