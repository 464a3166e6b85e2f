theorem q68 : (Jvm.Cond.initialized "FigureTillLaw") ∈ lw_all := lw_g (lw_at lw_m1 0 rfl) rfl
set_option maxRecDepth 100000
theorem q98 : (Jvm.Cond.classLink "FigureTillLaw" (7 : Nat) "FigureTill") ∈ lw_all := lw_g (lw_at lw_m1 30 rfl) rfl
theorem q100 : (Jvm.Cond.methodLink "FigureTillLaw" (9 : Nat) ({ cls := "FigureTill", name := "<init>", desc := "()V" } : Jvm.MethodName)) ∈ lw_all := lw_g (lw_at lw_m1 32 rfl) rfl
theorem q293 : (Jvm.Cond.methodLink "FigureTillLaw" (13 : Nat) ({ cls := "FigureTill", name := "thing", desc := "(III)I" } : Jvm.MethodName)) ∈ lw_all := lw_g (lw_at lw_m1 225 rfl) rfl
theorem q308 : (Jvm.Cond.methodLink "FigureTillLaw" (18 : Nat) ({ cls := "FigureTill", name := "thingIs", desc := "(II)I" } : Jvm.MethodName)) ∈ lw_all := lw_g (lw_at lw_m2 0 rfl) rfl
theorem q332 : (Jvm.Cond.methodLink "FigureTillLaw" (23 : Nat) ({ cls := "FigureTill", name := "till", desc := "(II)I" } : Jvm.MethodName)) ∈ lw_all := lw_g (lw_at lw_m2 24 rfl) rfl
theorem q431 : (Jvm.Cond.methodLink "FigureTillLaw" (27 : Nat) ({ cls := "FigureTill", name := "tillIs", desc := "(II)I" } : Jvm.MethodName)) ∈ lw_all := lw_g (lw_at lw_m2 123 rfl) rfl
theorem q435 : (Jvm.Cond.methodLink "FigureTillLaw" (31 : Nat) ({ cls := "FigureTill", name := "as", desc := "(II)I" } : Jvm.MethodName)) ∈ lw_all := lw_g (lw_at lw_m2 127 rfl) rfl
theorem q442 : (Jvm.Cond.methodLink "FigureTillLaw" (35 : Nat) ({ cls := "FigureTill", name := "figures", desc := "(II)I" } : Jvm.MethodName)) ∈ lw_all := lw_g (lw_at lw_m2 134 rfl) rfl
theorem q449 : (Jvm.Cond.methodLink "FigureTillLaw" (39 : Nat) ({ cls := "FigureTill", name := "asks", desc := "(III)I" } : Jvm.MethodName)) ∈ lw_all := lw_g (lw_at lw_m2 141 rfl) rfl
theorem q528 : (Jvm.Cond.methodLink "FigureTillLaw" (45 : Nat) ({ cls := "FigureTill", name := "feed", desc := "(JI)I" } : Jvm.MethodName)) ∈ lw_all := lw_g (lw_at lw_m2 220 rfl) rfl
theorem q532 : (Jvm.Cond.methodLink "FigureTillLaw" (50 : Nat) ({ cls := "FigureTill", name := "text", desc := "(I)I" } : Jvm.MethodName)) ∈ lw_all := lw_g (lw_at lw_m2 224 rfl) rfl
theorem q798 : (Jvm.Cond.methodLink "FigureTillLaw" (55 : Nat) ({ cls := "FigureTill", name := "untell", desc := "(I)I" } : Jvm.MethodName)) ∈ lw_all := lw_g (lw_at lw_m4 10 rfl) rfl
theorem q802 : (Jvm.Cond.methodLink "FigureTillLaw" (59 : Nat) ({ cls := "FigureTill", name := "basket", desc := "(II)I" } : Jvm.MethodName)) ∈ lw_all := lw_g (lw_at lw_m4 14 rfl) rfl
theorem q829 : (Jvm.Cond.methodLink "FigureTillLaw" (63 : Nat) ({ cls := "FigureTill", name := "pays", desc := "(II)I" } : Jvm.MethodName)) ∈ lw_all := lw_g (lw_at lw_m4 41 rfl) rfl
theorem q837 : (Jvm.Cond.methodLink "FigureTillLaw" (67 : Nat) ({ cls := "FigureTill", name := "go", desc := "(II)I" } : Jvm.MethodName)) ∈ lw_all := lw_g (lw_at lw_m4 49 rfl) rfl
theorem q850 : (Jvm.Cond.methodLink "FigureTillLaw" (71 : Nat) ({ cls := "FigureTill", name := "draws", desc := "(I)I" } : Jvm.MethodName)) ∈ lw_all := lw_g (lw_at lw_m4 62 rfl) rfl
theorem q863 : (Jvm.Cond.methodLink "FigureTillLaw" (75 : Nat) ({ cls := "FigureTill", name := "seed", desc := "(I)I" } : Jvm.MethodName)) ∈ lw_all := lw_g (lw_at lw_m4 75 rfl) rfl
theorem q867 : (Jvm.Cond.methodLink "FigureTillLaw" (79 : Nat) ({ cls := "FigureTill", name := "more", desc := "(IIII)I" } : Jvm.MethodName)) ∈ lw_all := lw_g (lw_at lw_m4 79 rfl) rfl
theorem q890 : (Jvm.Cond.methodLink "FigureTillLaw" (84 : Nat) ({ cls := "FigureTill", name := "inTwo", desc := "(II)I" } : Jvm.MethodName)) ∈ lw_all := lw_g (lw_at lw_m4 102 rfl) rfl
theorem q898 : (Jvm.Cond.methodLink "FigureTillLaw" (88 : Nat) ({ cls := "FigureTill", name := "together", desc := "(III)I" } : Jvm.MethodName)) ∈ lw_all := lw_g (lw_at lw_m4 110 rfl) rfl
theorem q902 : (Jvm.Cond.methodLink "FigureTillLaw" (92 : Nat) ({ cls := "FigureTill", name := "worth", desc := "(III)I" } : Jvm.MethodName)) ∈ lw_all := lw_g (lw_at lw_m4 114 rfl) rfl
theorem q906 : (Jvm.Cond.methodLink "FigureTillLaw" (96 : Nat) ({ cls := "FigureTill", name := "dearer", desc := "(III)I" } : Jvm.MethodName)) ∈ lw_all := lw_g (lw_at lw_m4 118 rfl) rfl
theorem q910 : (Jvm.Cond.methodLink "FigureTillLaw" (100 : Nat) ({ cls := "FigureTill", name := "nines", desc := "(I)I" } : Jvm.MethodName)) ∈ lw_all := lw_g (lw_at lw_m4 122 rfl) rfl
theorem q926 : (Jvm.Cond.methodLink "FigureTillLaw" (109 : Nat) ({ cls := "FigureTill", name := "wasIn", desc := "(III)I" } : Jvm.MethodName)) ∈ lw_all := lw_g (lw_at lw_m4 138 rfl) rfl
theorem q930 : (Jvm.Cond.methodLink "FigureTillLaw" (104 : Nat) ({ cls := "FigureTill", name := "erring", desc := "(IIII)J" } : Jvm.MethodName)) ∈ lw_all := lw_g (lw_at lw_m4 142 rfl) rfl
theorem q938 : (Jvm.Cond.methodLink "FigureTillLaw" (113 : Nat) ({ cls := "FigureTill", name := "voice", desc := "(III)I" } : Jvm.MethodName)) ∈ lw_all := lw_g (lw_at lw_m4 150 rfl) rfl
theorem q1081 : (Jvm.Cond.methodLink "FigureTillLaw" (117 : Nat) ({ cls := "FigureTill", name := "body", desc := "(I)I" } : Jvm.MethodName)) ∈ lw_all := lw_g (lw_at lw_m5 53 rfl) rfl
theorem q1085 : (Jvm.Cond.methodLink "FigureTillLaw" (121 : Nat) ({ cls := "FigureTill", name := "sheet", desc := "(III)I" } : Jvm.MethodName)) ∈ lw_all := lw_g (lw_at lw_m5 57 rfl) rfl
theorem q1103 : (Jvm.Cond.methodLink "FigureTillLaw" (125 : Nat) ({ cls := "FigureTill", name := "put", desc := "(III)I" } : Jvm.MethodName)) ∈ lw_all := lw_g (lw_at lw_m5 75 rfl) rfl
theorem q1107 : (Jvm.Cond.methodLink "FigureTillLaw" (129 : Nat) ({ cls := "FigureTill", name := "move", desc := "(IIIII)I" } : Jvm.MethodName)) ∈ lw_all := lw_g (lw_at lw_m5 79 rfl) rfl
theorem q1125 : (Jvm.Cond.methodLink "FigureTillLaw" (134 : Nat) ({ cls := "FigureTill", name := "prices", desc := "(I)I" } : Jvm.MethodName)) ∈ lw_all := lw_g (lw_at lw_m5 97 rfl) rfl
theorem q1129 : (Jvm.Cond.methodLink "FigureTillLaw" (138 : Nat) ({ cls := "FigureTill", name := "image", desc := "()I" } : Jvm.MethodName)) ∈ lw_all := lw_g (lw_at lw_m5 101 rfl) rfl
theorem q1138 : (Jvm.Cond.methodLink "FigureTillLaw" (143 : Nat) ({ cls := "FigureTill", name := "restore", desc := "()I" } : Jvm.MethodName)) ∈ lw_all := lw_g (lw_at lw_m5 110 rfl) rfl
theorem q1142 : (Jvm.Cond.methodLink "FigureTillLaw" (147 : Nat) ({ cls := "FigureTill", name := "tell", desc := "(I)I" } : Jvm.MethodName)) ∈ lw_all := lw_g (lw_at lw_m5 114 rfl) rfl
theorem q1146 : (Jvm.Cond.methodLink "FigureTillLaw" (151 : Nat) ({ cls := "FigureTill", name := "check", desc := "(I)I" } : Jvm.MethodName)) ∈ lw_all := lw_g (lw_at lw_m5 118 rfl) rfl
theorem q1150 : (Jvm.Cond.methodLink "FigureTillLaw" (155 : Nat) ({ cls := "FigureTill", name := "count", desc := "(I)I" } : Jvm.MethodName)) ∈ lw_all := lw_g (lw_at lw_m5 122 rfl) rfl
theorem q1158 : (Jvm.Cond.methodLink "FigureTillLaw" (159 : Nat) ({ cls := "FigureTill", name := "told", desc := "(I)I" } : Jvm.MethodName)) ∈ lw_all := lw_g (lw_at lw_m5 130 rfl) rfl
theorem q1162 : (Jvm.Cond.classLink "FigureTillLaw" (10 : Nat) "FigureTillModel") ∈ lw_all := lw_g (lw_at lw_m5 134 rfl) rfl
theorem q1164 : (Jvm.Cond.methodLink "FigureTillLaw" (12 : Nat) ({ cls := "FigureTillModel", name := "<init>", desc := "()V" } : Jvm.MethodName)) ∈ lw_all := lw_g (lw_at lw_m5 136 rfl) rfl
theorem q1259 : (Jvm.Cond.methodLink "FigureTillLaw" (49 : Nat) ({ cls := "FigureTillModel", name := "feed", desc := "(JI)I" } : Jvm.MethodName)) ∈ lw_all := lw_g (lw_at lw_m5 231 rfl) rfl
theorem q1272 : (Jvm.Cond.methodLink "FigureTillLaw" (54 : Nat) ({ cls := "FigureTillModel", name := "text", desc := "(I)I" } : Jvm.MethodName)) ∈ lw_all := lw_g (lw_at lw_m6 4 rfl) rfl
theorem q1316 : (Jvm.Cond.methodLink "FigureTillLaw" (58 : Nat) ({ cls := "FigureTillModel", name := "untell", desc := "(I)I" } : Jvm.MethodName)) ∈ lw_all := lw_g (lw_at lw_m6 48 rfl) rfl
theorem q1324 : (Jvm.Cond.methodLink "FigureTillLaw" (17 : Nat) ({ cls := "FigureTillModel", name := "thing", desc := "(III)I" } : Jvm.MethodName)) ∈ lw_all := lw_g (lw_at lw_m6 56 rfl) rfl
theorem q1335 : (Jvm.Cond.methodLink "FigureTillLaw" (22 : Nat) ({ cls := "FigureTillModel", name := "thingIs", desc := "(II)I" } : Jvm.MethodName)) ∈ lw_all := lw_g (lw_at lw_m6 67 rfl) rfl
theorem q1353 : (Jvm.Cond.methodLink "FigureTillLaw" (26 : Nat) ({ cls := "FigureTillModel", name := "till", desc := "(II)I" } : Jvm.MethodName)) ∈ lw_all := lw_g (lw_at lw_m6 85 rfl) rfl
theorem q1368 : (Jvm.Cond.methodLink "FigureTillLaw" (30 : Nat) ({ cls := "FigureTillModel", name := "tillIs", desc := "(II)I" } : Jvm.MethodName)) ∈ lw_all := lw_g (lw_at lw_m6 100 rfl) rfl
theorem q1372 : (Jvm.Cond.methodLink "FigureTillLaw" (34 : Nat) ({ cls := "FigureTillModel", name := "as", desc := "(II)I" } : Jvm.MethodName)) ∈ lw_all := lw_g (lw_at lw_m6 104 rfl) rfl
theorem q1379 : (Jvm.Cond.methodLink "FigureTillLaw" (38 : Nat) ({ cls := "FigureTillModel", name := "figures", desc := "(II)I" } : Jvm.MethodName)) ∈ lw_all := lw_g (lw_at lw_m6 111 rfl) rfl
theorem q1386 : (Jvm.Cond.methodLink "FigureTillLaw" (42 : Nat) ({ cls := "FigureTillModel", name := "asks", desc := "(III)I" } : Jvm.MethodName)) ∈ lw_all := lw_g (lw_at lw_m6 118 rfl) rfl
theorem q1398 : (Jvm.Cond.methodLink "FigureTillLaw" (62 : Nat) ({ cls := "FigureTillModel", name := "basket", desc := "(II)I" } : Jvm.MethodName)) ∈ lw_all := lw_g (lw_at lw_m6 130 rfl) rfl
theorem q1424 : (Jvm.Cond.methodLink "FigureTillLaw" (66 : Nat) ({ cls := "FigureTillModel", name := "pays", desc := "(II)I" } : Jvm.MethodName)) ∈ lw_all := lw_g (lw_at lw_m6 156 rfl) rfl
theorem q1432 : (Jvm.Cond.methodLink "FigureTillLaw" (70 : Nat) ({ cls := "FigureTillModel", name := "go", desc := "(II)I" } : Jvm.MethodName)) ∈ lw_all := lw_g (lw_at lw_m6 164 rfl) rfl
theorem q1445 : (Jvm.Cond.methodLink "FigureTillLaw" (74 : Nat) ({ cls := "FigureTillModel", name := "draws", desc := "(I)I" } : Jvm.MethodName)) ∈ lw_all := lw_g (lw_at lw_m6 177 rfl) rfl
theorem q1454 : (Jvm.Cond.methodLink "FigureTillLaw" (78 : Nat) ({ cls := "FigureTillModel", name := "seed", desc := "(I)I" } : Jvm.MethodName)) ∈ lw_all := lw_g (lw_at lw_m6 186 rfl) rfl
theorem q1458 : (Jvm.Cond.methodLink "FigureTillLaw" (83 : Nat) ({ cls := "FigureTillModel", name := "more", desc := "(IIII)I" } : Jvm.MethodName)) ∈ lw_all := lw_g (lw_at lw_m6 190 rfl) rfl
theorem q1470 : (Jvm.Cond.methodLink "FigureTillLaw" (87 : Nat) ({ cls := "FigureTillModel", name := "inTwo", desc := "(II)I" } : Jvm.MethodName)) ∈ lw_all := lw_g (lw_at lw_m6 202 rfl) rfl
theorem q1478 : (Jvm.Cond.methodLink "FigureTillLaw" (91 : Nat) ({ cls := "FigureTillModel", name := "together", desc := "(III)I" } : Jvm.MethodName)) ∈ lw_all := lw_g (lw_at lw_m6 210 rfl) rfl
theorem q1482 : (Jvm.Cond.methodLink "FigureTillLaw" (95 : Nat) ({ cls := "FigureTillModel", name := "worth", desc := "(III)I" } : Jvm.MethodName)) ∈ lw_all := lw_g (lw_at lw_m6 214 rfl) rfl
theorem q1486 : (Jvm.Cond.methodLink "FigureTillLaw" (99 : Nat) ({ cls := "FigureTillModel", name := "dearer", desc := "(III)I" } : Jvm.MethodName)) ∈ lw_all := lw_g (lw_at lw_m6 218 rfl) rfl
theorem q1490 : (Jvm.Cond.methodLink "FigureTillLaw" (103 : Nat) ({ cls := "FigureTillModel", name := "nines", desc := "(I)I" } : Jvm.MethodName)) ∈ lw_all := lw_g (lw_at lw_m6 222 rfl) rfl
theorem q1502 : (Jvm.Cond.methodLink "FigureTillLaw" (108 : Nat) ({ cls := "FigureTillModel", name := "erring", desc := "(IIII)J" } : Jvm.MethodName)) ∈ lw_all := lw_g (lw_at lw_m6 234 rfl) rfl
theorem q1509 : (Jvm.Cond.methodLink "FigureTillLaw" (112 : Nat) ({ cls := "FigureTillModel", name := "wasIn", desc := "(III)I" } : Jvm.MethodName)) ∈ lw_all := lw_g (lw_at lw_m7 1 rfl) rfl
theorem q1513 : (Jvm.Cond.methodLink "FigureTillLaw" (116 : Nat) ({ cls := "FigureTillModel", name := "voice", desc := "(III)I" } : Jvm.MethodName)) ∈ lw_all := lw_g (lw_at lw_m7 5 rfl) rfl
theorem q1540 : (Jvm.Cond.methodLink "FigureTillLaw" (120 : Nat) ({ cls := "FigureTillModel", name := "body", desc := "(I)I" } : Jvm.MethodName)) ∈ lw_all := lw_g (lw_at lw_m7 32 rfl) rfl
theorem q1544 : (Jvm.Cond.methodLink "FigureTillLaw" (124 : Nat) ({ cls := "FigureTillModel", name := "sheet", desc := "(III)I" } : Jvm.MethodName)) ∈ lw_all := lw_g (lw_at lw_m7 36 rfl) rfl
theorem q1548 : (Jvm.Cond.methodLink "FigureTillLaw" (128 : Nat) ({ cls := "FigureTillModel", name := "put", desc := "(III)I" } : Jvm.MethodName)) ∈ lw_all := lw_g (lw_at lw_m7 40 rfl) rfl
theorem q1552 : (Jvm.Cond.methodLink "FigureTillLaw" (133 : Nat) ({ cls := "FigureTillModel", name := "move", desc := "(IIIII)I" } : Jvm.MethodName)) ∈ lw_all := lw_g (lw_at lw_m7 44 rfl) rfl
theorem q1556 : (Jvm.Cond.methodLink "FigureTillLaw" (137 : Nat) ({ cls := "FigureTillModel", name := "prices", desc := "(I)I" } : Jvm.MethodName)) ∈ lw_all := lw_g (lw_at lw_m7 48 rfl) rfl
theorem q1560 : (Jvm.Cond.methodLink "FigureTillLaw" (142 : Nat) ({ cls := "FigureTillModel", name := "image", desc := "()I" } : Jvm.MethodName)) ∈ lw_all := lw_g (lw_at lw_m7 52 rfl) rfl
theorem q1567 : (Jvm.Cond.methodLink "FigureTillLaw" (146 : Nat) ({ cls := "FigureTillModel", name := "restore", desc := "()I" } : Jvm.MethodName)) ∈ lw_all := lw_g (lw_at lw_m7 59 rfl) rfl
theorem q1571 : (Jvm.Cond.methodLink "FigureTillLaw" (150 : Nat) ({ cls := "FigureTillModel", name := "tell", desc := "(I)I" } : Jvm.MethodName)) ∈ lw_all := lw_g (lw_at lw_m7 63 rfl) rfl
theorem q1575 : (Jvm.Cond.methodLink "FigureTillLaw" (154 : Nat) ({ cls := "FigureTillModel", name := "check", desc := "(I)I" } : Jvm.MethodName)) ∈ lw_all := lw_g (lw_at lw_m7 67 rfl) rfl
theorem q1579 : (Jvm.Cond.methodLink "FigureTillLaw" (158 : Nat) ({ cls := "FigureTillModel", name := "count", desc := "(I)I" } : Jvm.MethodName)) ∈ lw_all := lw_g (lw_at lw_m7 71 rfl) rfl
theorem q1583 : (Jvm.Cond.methodLink "FigureTillLaw" (162 : Nat) ({ cls := "FigureTillModel", name := "told", desc := "(I)I" } : Jvm.MethodName)) ∈ lw_all := lw_g (lw_at lw_m7 75 rfl) rfl
theorem q1587 : (Jvm.Cond.constantLong "FigureTillLaw" (43 : Nat) (4294967295 : Int64)) ∈ lw_all := lw_g (lw_at lw_m7 79 rfl) rfl
theorem q460 : (Jvm.Cond.interfaceMethod "FigureTill$Pays" "FigureTill$Pays" "pays" "(LFigureTill$Sees;II)I") ∈ lw_tbl := lw_at lw_m2 152 rfl
theorem q461 : (Jvm.Cond.declares ({ cls := "FigureTill$Pays", name := "pays", desc := "(LFigureTill$Sees;II)I" } : Jvm.MethodName)) ∈ lw_tbl := lw_at lw_m2 153 rfl
theorem q519 : (Jvm.Cond.interfaceMethod "FigureTill$Sees" "FigureTill$Sees" "told" "(IIII)I") ∈ lw_tbl := lw_at lw_m2 211 rfl
theorem q520 : (Jvm.Cond.declares ({ cls := "FigureTill$Sees", name := "told", desc := "(IIII)I" } : Jvm.MethodName)) ∈ lw_tbl := lw_at lw_m2 212 rfl
theorem q93 : (Jvm.Cond.initialized "java/lang/System") ∈ lw_all := lw_g (lw_at lw_m1 25 rfl) rfl
theorem q888 : (Jvm.Cond.static ({ cls := "java/lang/System", name := "arraycopy", desc := "(Ljava/lang/Object;ILjava/lang/Object;II)V" } : Jvm.MethodName)) ∈ lw_all := lw_g (lw_at lw_m4 100 rfl) rfl
theorem q889 : (Jvm.Cond.native ({ cls := "java/lang/System", name := "arraycopy", desc := "(Ljava/lang/Object;ILjava/lang/Object;II)V" } : Jvm.MethodName)) ∈ lw_all := lw_g (lw_at lw_m4 101 rfl) rfl
theorem q113 : (Jvm.Cond.arrayOver (Jvm.ClassFile.FieldType.object "FigureTill$Slot")) ∈ lw_tbl := lw_at lw_m1 45 rfl
theorem q115 : (Jvm.Cond.arrayOver (Jvm.ClassFile.FieldType.object "FigureTill$Text")) ∈ lw_tbl := lw_at lw_m1 47 rfl
theorem q126 : (Jvm.Cond.arrayClass Jvm.ClassFile.FieldType.int) ∈ lw_all := lw_g (lw_at lw_m1 58 rfl) rfl
theorem q127 : (Jvm.Cond.arrayClass Jvm.ClassFile.FieldType.byte) ∈ lw_all := lw_g (lw_at lw_m1 59 rfl) rfl
theorem q570 : (Jvm.Cond.arrayClass Jvm.ClassFile.FieldType.short) ∈ lw_all := lw_g (lw_at lw_m3 22 rfl) rfl
/-! java/lang/Math -/
def RJ0 : String := "java/lang/Math"
abbrev cJ0_min : ByteArray := prog_25_method_69_code
def yJ0_min : MethodName := ⟨RJ0, "min", "(II)I"⟩
def dkwJ0_min_0 : List UInt8 := [26, 27, 163, 0, 7, 26, 167, 0, 4, 27, 172]
abbrev dktJ0_min_0 : List UInt8 := dkwJ0_min_0 ++ []
theorem dksJ0_min_0 : cJ0_min.data.toList.drop 0 = dktJ0_min_0 := by decide +kernel
theorem dJ0_min_0 : decode cJ0_min 0 = .ok (.iload_n 0, 1) := dk_26 (dk_at dksJ0_min_0 0 rfl rfl)
theorem dJ0_min_1 : decode cJ0_min 1 = .ok (.iload_n 1, 1) := dk_27 (dk_at dksJ0_min_0 1 rfl rfl)
theorem dJ0_min_2 : decode cJ0_min 2 = .ok (.if_icmp .gt 7, 3) := dk_163 0 7 (dk_at dksJ0_min_0 2 rfl rfl)
theorem dJ0_min_5 : decode cJ0_min 5 = .ok (.iload_n 0, 1) := dk_26 (dk_at dksJ0_min_0 5 rfl rfl)
theorem dJ0_min_6 : decode cJ0_min 6 = .ok (.goto 4, 3) := dk_167 0 4 (dk_at dksJ0_min_0 6 rfl rfl)
theorem dJ0_min_9 : decode cJ0_min 9 = .ok (.iload_n 1, 1) := dk_27 (dk_at dksJ0_min_0 9 rfl rfl)
theorem dJ0_min_10 : decode cJ0_min 10 = .ok (.ireturn, 1) := dk_172 (dk_at dksJ0_min_0 10 rfl rfl)
abbrev cJ0_max : ByteArray := prog_25_method_65_code
def yJ0_max : MethodName := ⟨RJ0, "max", "(II)I"⟩
def dkwJ0_max_0 : List UInt8 := [26, 27, 161, 0, 7, 26, 167, 0, 4, 27, 172]
abbrev dktJ0_max_0 : List UInt8 := dkwJ0_max_0 ++ []
theorem dksJ0_max_0 : cJ0_max.data.toList.drop 0 = dktJ0_max_0 := by decide +kernel
theorem dJ0_max_0 : decode cJ0_max 0 = .ok (.iload_n 0, 1) := dk_26 (dk_at dksJ0_max_0 0 rfl rfl)
theorem dJ0_max_1 : decode cJ0_max 1 = .ok (.iload_n 1, 1) := dk_27 (dk_at dksJ0_max_0 1 rfl rfl)
theorem dJ0_max_2 : decode cJ0_max 2 = .ok (.if_icmp .lt 7, 3) := dk_161 0 7 (dk_at dksJ0_max_0 2 rfl rfl)
theorem dJ0_max_5 : decode cJ0_max 5 = .ok (.iload_n 0, 1) := dk_26 (dk_at dksJ0_max_0 5 rfl rfl)
theorem dJ0_max_6 : decode cJ0_max 6 = .ok (.goto 4, 3) := dk_167 0 4 (dk_at dksJ0_max_0 6 rfl rfl)
theorem dJ0_max_9 : decode cJ0_max 9 = .ok (.iload_n 1, 1) := dk_27 (dk_at dksJ0_max_0 9 rfl rfl)
theorem dJ0_max_10 : decode cJ0_max 10 = .ok (.ireturn, 1) := dk_172 (dk_at dksJ0_max_0 10 rfl rfl)
theorem q76 : (Jvm.Cond.initialized "java/lang/Math") ∈ lw_all := lw_g (lw_at lw_m1 8 rfl) rfl
theorem q327 : (Jvm.Cond.static ({ cls := "java/lang/Math", name := "min", desc := "(II)I" } : Jvm.MethodName)) ∈ lw_all := lw_g (lw_at lw_m2 19 rfl) rfl
theorem q328 : (Jvm.Cond.code ({ cls := "java/lang/Math", name := "min", desc := "(II)I" } : Jvm.MethodName) prog_25_method_69_code (2 : Nat) (Option.some Jvm.ClassFile.FieldType.int)) ∈ lw_all := lw_g (lw_at lw_m2 20 rfl) rfl
theorem q330 : (Jvm.Cond.static ({ cls := "java/lang/Math", name := "max", desc := "(II)I" } : Jvm.MethodName)) ∈ lw_all := lw_g (lw_at lw_m2 22 rfl) rfl
theorem q331 : (Jvm.Cond.code ({ cls := "java/lang/Math", name := "max", desc := "(II)I" } : Jvm.MethodName) prog_25_method_65_code (2 : Nat) (Option.some Jvm.ClassFile.FieldType.int)) ∈ lw_all := lw_g (lw_at lw_m2 23 rfl) rfl
/-! java/lang/Throwable -/
def RJ1 : String := "java/lang/Throwable"
def TJ1 : u_T := fun k => match k with
  | 0 => ("java/lang/Throwable", "cause", "Ljava/lang/Throwable;", false)
  | 1 => ("java/lang/Throwable", "stackTrace", "[Ljava/lang/StackTraceElement;", false)
  | 2 => ("java/lang/Throwable", "suppressedExceptions", "Ljava/util/List;", false)
  | 3 => ("java/lang/Throwable", "detailMessage", "Ljava/lang/String;", false)
  | _ => ("java/lang/Throwable", "backtrace", "Ljava/lang/Object;", false)
def tyJ1 : Nat → FieldType := fun k => match k with
  | 0 => .object "java/lang/Throwable"
  | 1 => .array (.object "java/lang/StackTraceElement")
  | 2 => .object "java/util/List"
  | 3 => .object "java/lang/String"
  | _ => .object "java/lang/Object"
abbrev wsJ10 : List Cond := u_ws RJ1 TJ1 5
theorem nmJ1 : ∀ a, a < 5 → ∀ b, b < 5 → a ≠ b → (TJ1 a).2.1 ≠ (TJ1 b).2.1 := by decide +kernel
theorem tyJ1_ok : ∀ k, k < 5 → parseFieldDescriptor (TJ1 k).2.2.1 = some (tyJ1 k) := by decide +kernel
abbrev cJ1_init : ByteArray := prog_32_method_1_code
def yJ1_init : MethodName := ⟨RJ1, "<init>", "()V"⟩
def dkwJ1_init_1 : List UInt8 := [182, 0, 27, 87, 177]
abbrev dktJ1_init_1 : List UInt8 := dkwJ1_init_1 ++ []
def dkwJ1_init_0 : List UInt8 := [42, 183, 0, 1, 42, 42, 181, 0, 7, 42, 178, 0, 13, 181, 0, 17, 42, 178, 0, 20, 181, 0, 24, 42]
abbrev dktJ1_init_0 : List UInt8 := dkwJ1_init_0 ++ dktJ1_init_1
theorem dksJ1_init_0 : cJ1_init.data.toList.drop 0 = dktJ1_init_0 := by decide +kernel
theorem dksJ1_init_1 : cJ1_init.data.toList.drop 24 = dktJ1_init_1 := dk_seg dksJ1_init_0 24 rfl rfl
theorem dJ1_init_0 : decode cJ1_init 0 = .ok (.aload_n 0, 1) := dk_42 (dk_at dksJ1_init_0 0 rfl rfl)
theorem dJ1_init_1 : decode cJ1_init 1 = .ok (.invokespecial 1, 3) := dk_183 0 1 (dk_at dksJ1_init_0 1 rfl rfl)
theorem dJ1_init_4 : decode cJ1_init 4 = .ok (.aload_n 0, 1) := dk_42 (dk_at dksJ1_init_0 4 rfl rfl)
theorem dJ1_init_5 : decode cJ1_init 5 = .ok (.aload_n 0, 1) := dk_42 (dk_at dksJ1_init_0 5 rfl rfl)
theorem dJ1_init_6 : decode cJ1_init 6 = .ok (.putfield 7, 3) := dk_181 0 7 (dk_at dksJ1_init_0 6 rfl rfl)
theorem dJ1_init_9 : decode cJ1_init 9 = .ok (.aload_n 0, 1) := dk_42 (dk_at dksJ1_init_0 9 rfl rfl)
theorem dJ1_init_10 : decode cJ1_init 10 = .ok (.getstatic 13, 3) := dk_178 0 13 (dk_at dksJ1_init_0 10 rfl rfl)
theorem dJ1_init_13 : decode cJ1_init 13 = .ok (.putfield 17, 3) := dk_181 0 17 (dk_at dksJ1_init_0 13 rfl rfl)
theorem dJ1_init_16 : decode cJ1_init 16 = .ok (.aload_n 0, 1) := dk_42 (dk_at dksJ1_init_0 16 rfl rfl)
theorem dJ1_init_17 : decode cJ1_init 17 = .ok (.getstatic 20, 3) := dk_178 0 20 (dk_at dksJ1_init_0 17 rfl rfl)
theorem dJ1_init_20 : decode cJ1_init 20 = .ok (.putfield 24, 3) := dk_181 0 24 (dk_at dksJ1_init_0 20 rfl rfl)
theorem dJ1_init_23 : decode cJ1_init 23 = .ok (.aload_n 0, 1) := dk_42 (dk_at dksJ1_init_0 23 rfl rfl)
theorem dJ1_init_24 : decode cJ1_init 24 = .ok (.invokevirtual 27, 3) := dk_182 0 27 (dk_at dksJ1_init_1 0 rfl rfl)
theorem dJ1_init_27 : decode cJ1_init 27 = .ok (.pop, 1) := dk_87 (dk_at dksJ1_init_1 3 rfl rfl)
theorem dJ1_init_28 : decode cJ1_init 28 = .ok (.return_, 1) := dk_177 (dk_at dksJ1_init_1 4 rfl rfl)
abbrev cJ1_init_2 : ByteArray := prog_32_method_5_code
def yJ1_init_2 : MethodName := ⟨RJ1, "<init>", "(Ljava/lang/String;Ljava/lang/Throwable;ZZ)V"⟩
def dkwJ1_init_2_2 : List UInt8 := [44, 181, 0, 7, 29, 154, 0, 8, 42, 1, 181, 0, 24, 177]
abbrev dktJ1_init_2_2 : List UInt8 := dkwJ1_init_2_2 ++ []
def dkwJ1_init_2_1 : List UInt8 := [21, 4, 153, 0, 11, 42, 182, 0, 27, 87, 167, 0, 8, 42, 1, 181, 0, 17, 42, 43, 181, 0, 31, 42]
abbrev dktJ1_init_2_1 : List UInt8 := dkwJ1_init_2_1 ++ dktJ1_init_2_2
def dkwJ1_init_2_0 : List UInt8 := [42, 183, 0, 1, 42, 42, 181, 0, 7, 42, 178, 0, 13, 181, 0, 17, 42, 178, 0, 20, 181, 0, 24]
abbrev dktJ1_init_2_0 : List UInt8 := dkwJ1_init_2_0 ++ dktJ1_init_2_1
theorem dksJ1_init_2_0 : cJ1_init_2.data.toList.drop 0 = dktJ1_init_2_0 := by decide +kernel
theorem dksJ1_init_2_1 : cJ1_init_2.data.toList.drop 23 = dktJ1_init_2_1 := dk_seg dksJ1_init_2_0 23 rfl rfl
theorem dksJ1_init_2_2 : cJ1_init_2.data.toList.drop 47 = dktJ1_init_2_2 := dk_seg dksJ1_init_2_1 24 rfl rfl
theorem dJ1_init_2_0 : decode cJ1_init_2 0 = .ok (.aload_n 0, 1) := dk_42 (dk_at dksJ1_init_2_0 0 rfl rfl)
theorem dJ1_init_2_1 : decode cJ1_init_2 1 = .ok (.invokespecial 1, 3) := dk_183 0 1 (dk_at dksJ1_init_2_0 1 rfl rfl)
theorem dJ1_init_2_4 : decode cJ1_init_2 4 = .ok (.aload_n 0, 1) := dk_42 (dk_at dksJ1_init_2_0 4 rfl rfl)
theorem dJ1_init_2_5 : decode cJ1_init_2 5 = .ok (.aload_n 0, 1) := dk_42 (dk_at dksJ1_init_2_0 5 rfl rfl)
theorem dJ1_init_2_6 : decode cJ1_init_2 6 = .ok (.putfield 7, 3) := dk_181 0 7 (dk_at dksJ1_init_2_0 6 rfl rfl)
theorem dJ1_init_2_9 : decode cJ1_init_2 9 = .ok (.aload_n 0, 1) := dk_42 (dk_at dksJ1_init_2_0 9 rfl rfl)
theorem dJ1_init_2_10 : decode cJ1_init_2 10 = .ok (.getstatic 13, 3) := dk_178 0 13 (dk_at dksJ1_init_2_0 10 rfl rfl)
theorem dJ1_init_2_13 : decode cJ1_init_2 13 = .ok (.putfield 17, 3) := dk_181 0 17 (dk_at dksJ1_init_2_0 13 rfl rfl)
theorem dJ1_init_2_16 : decode cJ1_init_2 16 = .ok (.aload_n 0, 1) := dk_42 (dk_at dksJ1_init_2_0 16 rfl rfl)
theorem dJ1_init_2_17 : decode cJ1_init_2 17 = .ok (.getstatic 20, 3) := dk_178 0 20 (dk_at dksJ1_init_2_0 17 rfl rfl)
theorem dJ1_init_2_20 : decode cJ1_init_2 20 = .ok (.putfield 24, 3) := dk_181 0 24 (dk_at dksJ1_init_2_0 20 rfl rfl)
theorem dJ1_init_2_23 : decode cJ1_init_2 23 = .ok (.iload 4, 2) := dk_21 4 (dk_at dksJ1_init_2_1 0 rfl rfl)
theorem dJ1_init_2_25 : decode cJ1_init_2 25 = .ok (.ifCond .eq 11, 3) := dk_153 0 11 (dk_at dksJ1_init_2_1 2 rfl rfl)
theorem dJ1_init_2_28 : decode cJ1_init_2 28 = .ok (.aload_n 0, 1) := dk_42 (dk_at dksJ1_init_2_1 5 rfl rfl)
theorem dJ1_init_2_29 : decode cJ1_init_2 29 = .ok (.invokevirtual 27, 3) := dk_182 0 27 (dk_at dksJ1_init_2_1 6 rfl rfl)
theorem dJ1_init_2_32 : decode cJ1_init_2 32 = .ok (.pop, 1) := dk_87 (dk_at dksJ1_init_2_1 9 rfl rfl)
theorem dJ1_init_2_33 : decode cJ1_init_2 33 = .ok (.goto 8, 3) := dk_167 0 8 (dk_at dksJ1_init_2_1 10 rfl rfl)
theorem dJ1_init_2_36 : decode cJ1_init_2 36 = .ok (.aload_n 0, 1) := dk_42 (dk_at dksJ1_init_2_1 13 rfl rfl)
theorem dJ1_init_2_37 : decode cJ1_init_2 37 = .ok (.aconst_null, 1) := dk_1 (dk_at dksJ1_init_2_1 14 rfl rfl)
theorem dJ1_init_2_38 : decode cJ1_init_2 38 = .ok (.putfield 17, 3) := dk_181 0 17 (dk_at dksJ1_init_2_1 15 rfl rfl)
theorem dJ1_init_2_41 : decode cJ1_init_2 41 = .ok (.aload_n 0, 1) := dk_42 (dk_at dksJ1_init_2_1 18 rfl rfl)
theorem dJ1_init_2_42 : decode cJ1_init_2 42 = .ok (.aload_n 1, 1) := dk_43 (dk_at dksJ1_init_2_1 19 rfl rfl)
theorem dJ1_init_2_43 : decode cJ1_init_2 43 = .ok (.putfield 31, 3) := dk_181 0 31 (dk_at dksJ1_init_2_1 20 rfl rfl)
theorem dJ1_init_2_46 : decode cJ1_init_2 46 = .ok (.aload_n 0, 1) := dk_42 (dk_at dksJ1_init_2_1 23 rfl rfl)
theorem dJ1_init_2_47 : decode cJ1_init_2 47 = .ok (.aload_n 2, 1) := dk_44 (dk_at dksJ1_init_2_2 0 rfl rfl)
theorem dJ1_init_2_48 : decode cJ1_init_2 48 = .ok (.putfield 7, 3) := dk_181 0 7 (dk_at dksJ1_init_2_2 1 rfl rfl)
theorem dJ1_init_2_51 : decode cJ1_init_2 51 = .ok (.iload_n 3, 1) := dk_29 (dk_at dksJ1_init_2_2 4 rfl rfl)
theorem dJ1_init_2_52 : decode cJ1_init_2 52 = .ok (.ifCond .ne 8, 3) := dk_154 0 8 (dk_at dksJ1_init_2_2 5 rfl rfl)
theorem dJ1_init_2_55 : decode cJ1_init_2 55 = .ok (.aload_n 0, 1) := dk_42 (dk_at dksJ1_init_2_2 8 rfl rfl)
theorem dJ1_init_2_56 : decode cJ1_init_2 56 = .ok (.aconst_null, 1) := dk_1 (dk_at dksJ1_init_2_2 9 rfl rfl)
theorem dJ1_init_2_57 : decode cJ1_init_2 57 = .ok (.putfield 24, 3) := dk_181 0 24 (dk_at dksJ1_init_2_2 10 rfl rfl)
theorem dJ1_init_2_60 : decode cJ1_init_2 60 = .ok (.return_, 1) := dk_177 (dk_at dksJ1_init_2_2 13 rfl rfl)
abbrev cJ1_init_3 : ByteArray := prog_32_method_2_code
def yJ1_init_3 : MethodName := ⟨RJ1, "<init>", "(Ljava/lang/String;)V"⟩
def dkwJ1_init_3_1 : List UInt8 := [182, 0, 27, 87, 42, 43, 181, 0, 31, 177]
abbrev dktJ1_init_3_1 : List UInt8 := dkwJ1_init_3_1 ++ []
def dkwJ1_init_3_0 : List UInt8 := [42, 183, 0, 1, 42, 42, 181, 0, 7, 42, 178, 0, 13, 181, 0, 17, 42, 178, 0, 20, 181, 0, 24, 42]
abbrev dktJ1_init_3_0 : List UInt8 := dkwJ1_init_3_0 ++ dktJ1_init_3_1
theorem dksJ1_init_3_0 : cJ1_init_3.data.toList.drop 0 = dktJ1_init_3_0 := by decide +kernel
theorem dksJ1_init_3_1 : cJ1_init_3.data.toList.drop 24 = dktJ1_init_3_1 := dk_seg dksJ1_init_3_0 24 rfl rfl
theorem dJ1_init_3_0 : decode cJ1_init_3 0 = .ok (.aload_n 0, 1) := dk_42 (dk_at dksJ1_init_3_0 0 rfl rfl)
theorem dJ1_init_3_1 : decode cJ1_init_3 1 = .ok (.invokespecial 1, 3) := dk_183 0 1 (dk_at dksJ1_init_3_0 1 rfl rfl)
theorem dJ1_init_3_4 : decode cJ1_init_3 4 = .ok (.aload_n 0, 1) := dk_42 (dk_at dksJ1_init_3_0 4 rfl rfl)
theorem dJ1_init_3_5 : decode cJ1_init_3 5 = .ok (.aload_n 0, 1) := dk_42 (dk_at dksJ1_init_3_0 5 rfl rfl)
theorem dJ1_init_3_6 : decode cJ1_init_3 6 = .ok (.putfield 7, 3) := dk_181 0 7 (dk_at dksJ1_init_3_0 6 rfl rfl)
theorem dJ1_init_3_9 : decode cJ1_init_3 9 = .ok (.aload_n 0, 1) := dk_42 (dk_at dksJ1_init_3_0 9 rfl rfl)
theorem dJ1_init_3_10 : decode cJ1_init_3 10 = .ok (.getstatic 13, 3) := dk_178 0 13 (dk_at dksJ1_init_3_0 10 rfl rfl)
theorem dJ1_init_3_13 : decode cJ1_init_3 13 = .ok (.putfield 17, 3) := dk_181 0 17 (dk_at dksJ1_init_3_0 13 rfl rfl)
theorem dJ1_init_3_16 : decode cJ1_init_3 16 = .ok (.aload_n 0, 1) := dk_42 (dk_at dksJ1_init_3_0 16 rfl rfl)
theorem dJ1_init_3_17 : decode cJ1_init_3 17 = .ok (.getstatic 20, 3) := dk_178 0 20 (dk_at dksJ1_init_3_0 17 rfl rfl)
theorem dJ1_init_3_20 : decode cJ1_init_3 20 = .ok (.putfield 24, 3) := dk_181 0 24 (dk_at dksJ1_init_3_0 20 rfl rfl)
theorem dJ1_init_3_23 : decode cJ1_init_3 23 = .ok (.aload_n 0, 1) := dk_42 (dk_at dksJ1_init_3_0 23 rfl rfl)
theorem dJ1_init_3_24 : decode cJ1_init_3 24 = .ok (.invokevirtual 27, 3) := dk_182 0 27 (dk_at dksJ1_init_3_1 0 rfl rfl)
theorem dJ1_init_3_27 : decode cJ1_init_3 27 = .ok (.pop, 1) := dk_87 (dk_at dksJ1_init_3_1 3 rfl rfl)
theorem dJ1_init_3_28 : decode cJ1_init_3 28 = .ok (.aload_n 0, 1) := dk_42 (dk_at dksJ1_init_3_1 4 rfl rfl)
theorem dJ1_init_3_29 : decode cJ1_init_3 29 = .ok (.aload_n 1, 1) := dk_43 (dk_at dksJ1_init_3_1 5 rfl rfl)
theorem dJ1_init_3_30 : decode cJ1_init_3 30 = .ok (.putfield 31, 3) := dk_181 0 31 (dk_at dksJ1_init_3_1 6 rfl rfl)
theorem dJ1_init_3_33 : decode cJ1_init_3 33 = .ok (.return_, 1) := dk_177 (dk_at dksJ1_init_3_1 9 rfl rfl)
theorem q85 : (Jvm.Cond.initialized "java/lang/Throwable") ∈ lw_all := lw_g (lw_at lw_m1 17 rfl) rfl
theorem q635 : (Jvm.Cond.declares ({ cls := "java/lang/Throwable", name := "<init>", desc := "()V" } : Jvm.MethodName)) ∈ lw_tbl := lw_at lw_m3 87 rfl
theorem q636 : (Jvm.Cond.declares ({ cls := "java/lang/Throwable", name := "<init>", desc := "(Ljava/lang/String;)V" } : Jvm.MethodName)) ∈ lw_tbl := lw_at lw_m3 88 rfl
theorem q640 : (Jvm.Cond.lays "java/lang/Throwable" "java/lang/Throwable" "cause" "Ljava/lang/Throwable;") ∈ lw_all := lw_g (lw_at lw_m3 92 rfl) rfl
theorem q642 : (Jvm.Cond.lays "java/lang/Throwable" "java/lang/Throwable" "stackTrace" "[Ljava/lang/StackTraceElement;") ∈ lw_all := lw_g (lw_at lw_m3 94 rfl) rfl
theorem q644 : (Jvm.Cond.lays "java/lang/Throwable" "java/lang/Throwable" "suppressedExceptions" "Ljava/util/List;") ∈ lw_all := lw_g (lw_at lw_m3 96 rfl) rfl
theorem q646 : (Jvm.Cond.lays "java/lang/Throwable" "java/lang/Throwable" "detailMessage" "Ljava/lang/String;") ∈ lw_all := lw_g (lw_at lw_m3 98 rfl) rfl
theorem q648 : (Jvm.Cond.lays "java/lang/Throwable" "java/lang/Throwable" "backtrace" "Ljava/lang/Object;") ∈ lw_all := lw_g (lw_at lw_m3 100 rfl) rfl
theorem q649 : (Jvm.Cond.fieldLink "java/lang/Throwable" (198 : Nat) "java/lang/Throwable" "backtrace" "Ljava/lang/Object;") ∈ lw_all := lw_g (lw_at lw_m3 101 rfl) rfl
theorem q650 : (Jvm.Cond.superclass "java/lang/Throwable" "java/lang/Object") ∈ lw_all := lw_g (lw_at lw_m3 102 rfl) rfl
theorem q651 : (Jvm.Cond.instanceMethod ({ cls := "java/lang/Throwable", name := "<init>", desc := "()V" } : Jvm.MethodName)) ∈ lw_all := lw_g (lw_at lw_m3 103 rfl) rfl
theorem q652 : (Jvm.Cond.code ({ cls := "java/lang/Throwable", name := "<init>", desc := "()V" } : Jvm.MethodName) prog_32_method_1_code (1 : Nat) (Option.none : Option Jvm.ClassFile.FieldType)) ∈ lw_all := lw_g (lw_at lw_m3 104 rfl) rfl
theorem q653 : (Jvm.Cond.methodLink "java/lang/Throwable" (1 : Nat) ({ cls := "java/lang/Object", name := "<init>", desc := "()V" } : Jvm.MethodName)) ∈ lw_all := lw_g (lw_at lw_m3 105 rfl) rfl
theorem q654 : (Jvm.Cond.fieldLink "java/lang/Throwable" (13 : Nat) "java/lang/Throwable" "UNASSIGNED_STACK" "[Ljava/lang/StackTraceElement;") ∈ lw_all := lw_g (lw_at lw_m3 106 rfl) rfl
theorem q655 : (Jvm.Cond.laysStatic "java/lang/Throwable" "UNASSIGNED_STACK" "[Ljava/lang/StackTraceElement;") ∈ lw_tbl := lw_at lw_m3 107 rfl
theorem q656 : (Jvm.Cond.fieldLink "java/lang/Throwable" (20 : Nat) "java/lang/Throwable" "SUPPRESSED_SENTINEL" "Ljava/util/List;") ∈ lw_all := lw_g (lw_at lw_m3 108 rfl) rfl
theorem q657 : (Jvm.Cond.laysStatic "java/lang/Throwable" "SUPPRESSED_SENTINEL" "Ljava/util/List;") ∈ lw_tbl := lw_at lw_m3 109 rfl
theorem q658 : (Jvm.Cond.methodLink "java/lang/Throwable" (27 : Nat) ({ cls := "java/lang/Throwable", name := "fillInStackTrace", desc := "()Ljava/lang/Throwable;" } : Jvm.MethodName)) ∈ lw_all := lw_g (lw_at lw_m3 110 rfl) rfl
theorem q659 : (Jvm.Cond.instanceMethod ({ cls := "java/lang/Throwable", name := "fillInStackTrace", desc := "()Ljava/lang/Throwable;" } : Jvm.MethodName)) ∈ lw_all := lw_g (lw_at lw_m3 111 rfl) rfl
theorem q660 : (Jvm.Cond.sameMethod "java/lang/Throwable" "java/lang/Throwable" "fillInStackTrace" "()Ljava/lang/Throwable;") ∈ lw_all := lw_g (lw_at lw_m3 112 rfl) rfl
theorem q664 : (Jvm.Cond.codeSync ({ cls := "java/lang/Throwable", name := "fillInStackTrace", desc := "()Ljava/lang/Throwable;" } : Jvm.MethodName) prog_32_method_18_code (1 : Nat) (Option.some (Jvm.ClassFile.FieldType.object "java/lang/Throwable"))) ∈ lw_all := lw_g (lw_at lw_m3 116 rfl) rfl
theorem q665 : (Jvm.Cond.methodLink "java/lang/Throwable" (202 : Nat) ({ cls := "java/lang/Throwable", name := "fillInStackTrace", desc := "(I)Ljava/lang/Throwable;" } : Jvm.MethodName)) ∈ lw_all := lw_g (lw_at lw_m3 117 rfl) rfl
theorem q666 : (Jvm.Cond.privateMethod ({ cls := "java/lang/Throwable", name := "fillInStackTrace", desc := "(I)Ljava/lang/Throwable;" } : Jvm.MethodName)) ∈ lw_tbl := lw_at lw_m3 118 rfl
theorem q667 : (Jvm.Cond.instanceMethod ({ cls := "java/lang/Throwable", name := "fillInStackTrace", desc := "(I)Ljava/lang/Throwable;" } : Jvm.MethodName)) ∈ lw_all := lw_g (lw_at lw_m3 119 rfl) rfl
theorem q668 : (Jvm.Cond.instantiable "java/lang/Throwable" (6 : Nat)) ∈ lw_all := lw_g (lw_at lw_m3 120 rfl) rfl
theorem q669 : (Jvm.Cond.native ({ cls := "java/lang/Throwable", name := "fillInStackTrace", desc := "(I)Ljava/lang/Throwable;" } : Jvm.MethodName)) ∈ lw_all := lw_g (lw_at lw_m3 121 rfl) rfl
theorem q677 : (Jvm.Cond.instanceMethod ({ cls := "java/lang/Throwable", name := "<init>", desc := "(Ljava/lang/String;Ljava/lang/Throwable;ZZ)V" } : Jvm.MethodName)) ∈ lw_all := lw_g (lw_at lw_m3 129 rfl) rfl
theorem q678 : (Jvm.Cond.code ({ cls := "java/lang/Throwable", name := "<init>", desc := "(Ljava/lang/String;Ljava/lang/Throwable;ZZ)V" } : Jvm.MethodName) prog_32_method_5_code (5 : Nat) (Option.none : Option Jvm.ClassFile.FieldType)) ∈ lw_all := lw_g (lw_at lw_m3 130 rfl) rfl
theorem q681 : (Jvm.Cond.fieldLink "java/lang/Throwable" (198 : Nat) "java/lang/Throwable" "backtrace" "Ljava/lang/Object;") ∈ lw_all := lw_g (lw_at lw_m3 133 rfl) rfl
theorem q682 : (Jvm.Cond.fieldLink "java/lang/Throwable" (31 : Nat) "java/lang/Throwable" "detailMessage" "Ljava/lang/String;") ∈ lw_all := lw_g (lw_at lw_m3 134 rfl) rfl
theorem q683 : (Jvm.Cond.fieldLink "java/lang/Throwable" (7 : Nat) "java/lang/Throwable" "cause" "Ljava/lang/Throwable;") ∈ lw_all := lw_g (lw_at lw_m3 135 rfl) rfl
theorem q684 : (Jvm.Cond.fieldLink "java/lang/Throwable" (17 : Nat) "java/lang/Throwable" "stackTrace" "[Ljava/lang/StackTraceElement;") ∈ lw_all := lw_g (lw_at lw_m3 136 rfl) rfl
theorem q685 : (Jvm.Cond.fieldLink "java/lang/Throwable" (24 : Nat) "java/lang/Throwable" "suppressedExceptions" "Ljava/util/List;") ∈ lw_all := lw_g (lw_at lw_m3 137 rfl) rfl
theorem q688 : (Jvm.Cond.soleField "java/lang/Throwable" "backtrace") ∈ lw_all := lw_g (lw_at lw_m3 140 rfl) rfl
theorem q689 : (Jvm.Cond.soleField "java/lang/Throwable" "detailMessage") ∈ lw_all := lw_g (lw_at lw_m3 141 rfl) rfl
theorem q690 : (Jvm.Cond.soleField "java/lang/Throwable" "cause") ∈ lw_all := lw_g (lw_at lw_m3 142 rfl) rfl
theorem q691 : (Jvm.Cond.soleField "java/lang/Throwable" "stackTrace") ∈ lw_all := lw_g (lw_at lw_m3 143 rfl) rfl
theorem q693 : (Jvm.Cond.soleField "java/lang/Throwable" "depth") ∈ lw_all := lw_g (lw_at lw_m3 145 rfl) rfl
theorem q694 : (Jvm.Cond.soleField "java/lang/Throwable" "suppressedExceptions") ∈ lw_all := lw_g (lw_at lw_m3 146 rfl) rfl
theorem q953 : (Jvm.Cond.instanceMethod ({ cls := "java/lang/Throwable", name := "<init>", desc := "(Ljava/lang/String;)V" } : Jvm.MethodName)) ∈ lw_all := lw_g (lw_at lw_m4 165 rfl) rfl
theorem q954 : (Jvm.Cond.code ({ cls := "java/lang/Throwable", name := "<init>", desc := "(Ljava/lang/String;)V" } : Jvm.MethodName) prog_32_method_2_code (2 : Nat) (Option.none : Option Jvm.ClassFile.FieldType)) ∈ lw_all := lw_g (lw_at lw_m4 166 rfl) rfl
theorem q1592 : (Jvm.Cond.sameMethod "java/lang/Throwable" "java/lang/Throwable" "fillInStackTrace" "(I)Ljava/lang/Throwable;") ∈ lw_all := lw_g (lw_at lw_m7 84 rfl) rfl
theorem in_J1 : ∀ w ∈ wsJ10, w ∈ lw_all := lw_in wsJ10 [640, 642, 644, 646, 648] (by decide +kernel) (by decide +kernel)
/-! java/lang/NegativeArraySizeException -/
def RJ10 : String := "java/lang/NegativeArraySizeException"
def TJ10 : u_T := fun k => match k with
  | 0 => ("java/lang/Throwable", "backtrace", "Ljava/lang/Object;", false)
  | 1 => ("java/lang/Throwable", "detailMessage", "Ljava/lang/String;", false)
  | 2 => ("java/lang/Throwable", "cause", "Ljava/lang/Throwable;", false)
  | 3 => ("java/lang/Throwable", "stackTrace", "[Ljava/lang/StackTraceElement;", false)
  | 4 => ("java/lang/Throwable", "depth", "I", false)
  | _ => ("java/lang/Throwable", "suppressedExceptions", "Ljava/util/List;", false)
def tyJ10 : Nat → FieldType := fun k => match k with
  | 0 => .object "java/lang/Object"
  | 1 => .object "java/lang/String"
  | 2 => .object "java/lang/Throwable"
  | 3 => .array (.object "java/lang/StackTraceElement")
  | 4 => .int
  | _ => .object "java/util/List"
abbrev wsJ100 : List Cond := u_ws RJ10 TJ10 6
theorem nmJ10 : ∀ a, a < 6 → ∀ b, b < 6 → a ≠ b → (TJ10 a).2.1 ≠ (TJ10 b).2.1 := by decide +kernel
theorem tyJ10_ok : ∀ k, k < 6 → parseFieldDescriptor (TJ10 k).2.2.1 = some (tyJ10 k) := by decide +kernel
abbrev cJ10_init : ByteArray := prog_26_method_2_code
def yJ10_init : MethodName := ⟨RJ10, "<init>", "(Ljava/lang/String;)V"⟩
def dkwJ10_init_0 : List UInt8 := [42, 43, 183, 0, 7, 177]
abbrev dktJ10_init_0 : List UInt8 := dkwJ10_init_0 ++ []
theorem dksJ10_init_0 : cJ10_init.data.toList.drop 0 = dktJ10_init_0 := by decide +kernel
theorem dJ10_init_0 : decode cJ10_init 0 = .ok (.aload_n 0, 1) := dk_42 (dk_at dksJ10_init_0 0 rfl rfl)
theorem dJ10_init_1 : decode cJ10_init 1 = .ok (.aload_n 1, 1) := dk_43 (dk_at dksJ10_init_0 1 rfl rfl)
theorem dJ10_init_2 : decode cJ10_init 2 = .ok (.invokespecial 7, 3) := dk_183 0 7 (dk_at dksJ10_init_0 2 rfl rfl)
theorem dJ10_init_5 : decode cJ10_init 5 = .ok (.return_, 1) := dk_177 (dk_at dksJ10_init_0 5 rfl rfl)
theorem q96 : (Jvm.Cond.initialized "java/lang/NegativeArraySizeException") ∈ lw_all := lw_g (lw_at lw_m1 28 rfl) rfl
theorem q663 : (Jvm.Cond.selects "java/lang/NegativeArraySizeException" ({ cls := "java/lang/Throwable", name := "fillInStackTrace", desc := "()Ljava/lang/Throwable;" } : Jvm.MethodName) ({ cls := "java/lang/Throwable", name := "fillInStackTrace", desc := "()Ljava/lang/Throwable;" } : Jvm.MethodName)) ∈ lw_all := lw_g (lw_at lw_m3 115 rfl) rfl
theorem q1090 : (Jvm.Cond.instantiable "java/lang/NegativeArraySizeException" (6 : Nat)) ∈ lw_all := lw_g (lw_at lw_m5 62 rfl) rfl
theorem q1091 : (Jvm.Cond.instanceMethod ({ cls := "java/lang/NegativeArraySizeException", name := "<init>", desc := "(Ljava/lang/String;)V" } : Jvm.MethodName)) ∈ lw_all := lw_g (lw_at lw_m5 63 rfl) rfl
theorem q1092 : (Jvm.Cond.code ({ cls := "java/lang/NegativeArraySizeException", name := "<init>", desc := "(Ljava/lang/String;)V" } : Jvm.MethodName) prog_26_method_2_code (2 : Nat) (Option.none : Option Jvm.ClassFile.FieldType)) ∈ lw_all := lw_g (lw_at lw_m5 64 rfl) rfl
theorem q1093 : (Jvm.Cond.methodLink "java/lang/NegativeArraySizeException" (7 : Nat) ({ cls := "java/lang/RuntimeException", name := "<init>", desc := "(Ljava/lang/String;)V" } : Jvm.MethodName)) ∈ lw_all := lw_g (lw_at lw_m5 65 rfl) rfl
theorem q1094 : (Jvm.Cond.lays "java/lang/NegativeArraySizeException" "java/lang/Throwable" "backtrace" "Ljava/lang/Object;") ∈ lw_all := lw_g (lw_at lw_m5 66 rfl) rfl
theorem q1095 : (Jvm.Cond.lays "java/lang/NegativeArraySizeException" "java/lang/Throwable" "detailMessage" "Ljava/lang/String;") ∈ lw_all := lw_g (lw_at lw_m5 67 rfl) rfl
theorem q1096 : (Jvm.Cond.lays "java/lang/NegativeArraySizeException" "java/lang/Throwable" "cause" "Ljava/lang/Throwable;") ∈ lw_all := lw_g (lw_at lw_m5 68 rfl) rfl
theorem q1097 : (Jvm.Cond.lays "java/lang/NegativeArraySizeException" "java/lang/Throwable" "stackTrace" "[Ljava/lang/StackTraceElement;") ∈ lw_all := lw_g (lw_at lw_m5 69 rfl) rfl
theorem q1098 : (Jvm.Cond.lays "java/lang/NegativeArraySizeException" "java/lang/Throwable" "depth" "I") ∈ lw_all := lw_g (lw_at lw_m5 70 rfl) rfl
theorem q1099 : (Jvm.Cond.lays "java/lang/NegativeArraySizeException" "java/lang/Throwable" "suppressedExceptions" "Ljava/util/List;") ∈ lw_all := lw_g (lw_at lw_m5 71 rfl) rfl
theorem q1100 : (Jvm.Cond.superclass "java/lang/NegativeArraySizeException" "java/lang/RuntimeException") ∈ lw_all := lw_g (lw_at lw_m5 72 rfl) rfl
theorem q1101 : (Jvm.Cond.castable "java/lang/NegativeArraySizeException" "java/lang/NegativeArraySizeException") ∈ lw_tbl := lw_at lw_m5 73 rfl
theorem q1102 : (Jvm.Cond.selects "java/lang/NegativeArraySizeException" ({ cls := "java/lang/Throwable", name := "fillInStackTrace", desc := "(I)Ljava/lang/Throwable;" } : Jvm.MethodName) ({ cls := "java/lang/Throwable", name := "fillInStackTrace", desc := "(I)Ljava/lang/Throwable;" } : Jvm.MethodName)) ∈ lw_all := lw_g (lw_at lw_m5 74 rfl) rfl
theorem in_J10 : ∀ w ∈ wsJ100, w ∈ lw_all := lw_in wsJ100 [1094, 1095, 1096, 1097, 1098, 1099] (by decide +kernel) (by decide +kernel)
/-! java/lang/ArrayStoreException -/
def RJ11 : String := "java/lang/ArrayStoreException"
def TJ11 : u_T := fun k => match k with
  | 0 => ("java/lang/Throwable", "backtrace", "Ljava/lang/Object;", false)
  | 1 => ("java/lang/Throwable", "detailMessage", "Ljava/lang/String;", false)
  | 2 => ("java/lang/Throwable", "cause", "Ljava/lang/Throwable;", false)
  | 3 => ("java/lang/Throwable", "stackTrace", "[Ljava/lang/StackTraceElement;", false)
  | 4 => ("java/lang/Throwable", "depth", "I", false)
  | _ => ("java/lang/Throwable", "suppressedExceptions", "Ljava/util/List;", false)
def tyJ11 : Nat → FieldType := fun k => match k with
  | 0 => .object "java/lang/Object"
  | 1 => .object "java/lang/String"
  | 2 => .object "java/lang/Throwable"
  | 3 => .array (.object "java/lang/StackTraceElement")
  | 4 => .int
  | _ => .object "java/util/List"
abbrev wsJ110 : List Cond := u_ws RJ11 TJ11 6
theorem nmJ11 : ∀ a, a < 6 → ∀ b, b < 6 → a ≠ b → (TJ11 a).2.1 ≠ (TJ11 b).2.1 := by decide +kernel
theorem tyJ11_ok : ∀ k, k < 6 → parseFieldDescriptor (TJ11 k).2.2.1 = some (tyJ11 k) := by decide +kernel
abbrev cJ11_init : ByteArray := prog_22_method_2_code
def yJ11_init : MethodName := ⟨RJ11, "<init>", "(Ljava/lang/String;)V"⟩
def dkwJ11_init_0 : List UInt8 := [42, 43, 183, 0, 7, 177]
abbrev dktJ11_init_0 : List UInt8 := dkwJ11_init_0 ++ []
theorem dksJ11_init_0 : cJ11_init.data.toList.drop 0 = dktJ11_init_0 := by decide +kernel
theorem dJ11_init_0 : decode cJ11_init 0 = .ok (.aload_n 0, 1) := dk_42 (dk_at dksJ11_init_0 0 rfl rfl)
theorem dJ11_init_1 : decode cJ11_init 1 = .ok (.aload_n 1, 1) := dk_43 (dk_at dksJ11_init_0 1 rfl rfl)
theorem dJ11_init_2 : decode cJ11_init 2 = .ok (.invokespecial 7, 3) := dk_183 0 7 (dk_at dksJ11_init_0 2 rfl rfl)
theorem dJ11_init_5 : decode cJ11_init 5 = .ok (.return_, 1) := dk_177 (dk_at dksJ11_init_0 5 rfl rfl)
theorem q97 : (Jvm.Cond.initialized "java/lang/ArrayStoreException") ∈ lw_all := lw_g (lw_at lw_m1 29 rfl) rfl
theorem q662 : (Jvm.Cond.selects "java/lang/ArrayStoreException" ({ cls := "java/lang/Throwable", name := "fillInStackTrace", desc := "()Ljava/lang/Throwable;" } : Jvm.MethodName) ({ cls := "java/lang/Throwable", name := "fillInStackTrace", desc := "()Ljava/lang/Throwable;" } : Jvm.MethodName)) ∈ lw_all := lw_g (lw_at lw_m3 114 rfl) rfl
theorem q1112 : (Jvm.Cond.instantiable "java/lang/ArrayStoreException" (6 : Nat)) ∈ lw_all := lw_g (lw_at lw_m5 84 rfl) rfl
theorem q1113 : (Jvm.Cond.instanceMethod ({ cls := "java/lang/ArrayStoreException", name := "<init>", desc := "(Ljava/lang/String;)V" } : Jvm.MethodName)) ∈ lw_all := lw_g (lw_at lw_m5 85 rfl) rfl
theorem q1114 : (Jvm.Cond.code ({ cls := "java/lang/ArrayStoreException", name := "<init>", desc := "(Ljava/lang/String;)V" } : Jvm.MethodName) prog_22_method_2_code (2 : Nat) (Option.none : Option Jvm.ClassFile.FieldType)) ∈ lw_all := lw_g (lw_at lw_m5 86 rfl) rfl
theorem q1115 : (Jvm.Cond.methodLink "java/lang/ArrayStoreException" (7 : Nat) ({ cls := "java/lang/RuntimeException", name := "<init>", desc := "(Ljava/lang/String;)V" } : Jvm.MethodName)) ∈ lw_all := lw_g (lw_at lw_m5 87 rfl) rfl
theorem q1116 : (Jvm.Cond.lays "java/lang/ArrayStoreException" "java/lang/Throwable" "backtrace" "Ljava/lang/Object;") ∈ lw_all := lw_g (lw_at lw_m5 88 rfl) rfl
theorem q1117 : (Jvm.Cond.lays "java/lang/ArrayStoreException" "java/lang/Throwable" "detailMessage" "Ljava/lang/String;") ∈ lw_all := lw_g (lw_at lw_m5 89 rfl) rfl
theorem q1118 : (Jvm.Cond.lays "java/lang/ArrayStoreException" "java/lang/Throwable" "cause" "Ljava/lang/Throwable;") ∈ lw_all := lw_g (lw_at lw_m5 90 rfl) rfl
theorem q1119 : (Jvm.Cond.lays "java/lang/ArrayStoreException" "java/lang/Throwable" "stackTrace" "[Ljava/lang/StackTraceElement;") ∈ lw_all := lw_g (lw_at lw_m5 91 rfl) rfl
theorem q1120 : (Jvm.Cond.lays "java/lang/ArrayStoreException" "java/lang/Throwable" "depth" "I") ∈ lw_all := lw_g (lw_at lw_m5 92 rfl) rfl
theorem q1121 : (Jvm.Cond.lays "java/lang/ArrayStoreException" "java/lang/Throwable" "suppressedExceptions" "Ljava/util/List;") ∈ lw_all := lw_g (lw_at lw_m5 93 rfl) rfl
theorem q1122 : (Jvm.Cond.superclass "java/lang/ArrayStoreException" "java/lang/RuntimeException") ∈ lw_all := lw_g (lw_at lw_m5 94 rfl) rfl
theorem q1123 : (Jvm.Cond.castable "java/lang/ArrayStoreException" "java/lang/ArrayStoreException") ∈ lw_tbl := lw_at lw_m5 95 rfl
theorem q1124 : (Jvm.Cond.selects "java/lang/ArrayStoreException" ({ cls := "java/lang/Throwable", name := "fillInStackTrace", desc := "(I)Ljava/lang/Throwable;" } : Jvm.MethodName) ({ cls := "java/lang/Throwable", name := "fillInStackTrace", desc := "(I)Ljava/lang/Throwable;" } : Jvm.MethodName)) ∈ lw_all := lw_g (lw_at lw_m5 96 rfl) rfl
theorem in_J11 : ∀ w ∈ wsJ110, w ∈ lw_all := lw_in wsJ110 [1116, 1117, 1118, 1119, 1120, 1121] (by decide +kernel) (by decide +kernel)
/-! java/lang/Object -/
def RJ12 : String := "java/lang/Object"
abbrev cJ12_init : ByteArray := object_method_1_code
def yJ12_init : MethodName := ⟨RJ12, "<init>", "()V"⟩
theorem dJ12_init_0 : decode cJ12_init 0 = .ok (.return_, 1) := by decide +kernel
theorem q104 : (Jvm.Cond.instanceMethod ({ cls := "java/lang/Object", name := "<init>", desc := "()V" } : Jvm.MethodName)) ∈ lw_all := lw_g (lw_at lw_m1 36 rfl) rfl
theorem q105 : (Jvm.Cond.code ({ cls := "java/lang/Object", name := "<init>", desc := "()V" } : Jvm.MethodName) object_method_1_code (1 : Nat) (Option.none : Option Jvm.ClassFile.FieldType)) ∈ lw_all := lw_g (lw_at lw_m1 37 rfl) rfl
/-! java/lang/Exception -/
def RJ2 : String := "java/lang/Exception"
abbrev cJ2_init : ByteArray := prog_24_method_5_code
def yJ2_init : MethodName := ⟨RJ2, "<init>", "(Ljava/lang/String;Ljava/lang/Throwable;ZZ)V"⟩
def dkwJ2_init_0 : List UInt8 := [42, 43, 44, 29, 21, 4, 183, 0, 16, 177]
abbrev dktJ2_init_0 : List UInt8 := dkwJ2_init_0 ++ []
theorem dksJ2_init_0 : cJ2_init.data.toList.drop 0 = dktJ2_init_0 := by decide +kernel
theorem dJ2_init_0 : decode cJ2_init 0 = .ok (.aload_n 0, 1) := dk_42 (dk_at dksJ2_init_0 0 rfl rfl)
theorem dJ2_init_1 : decode cJ2_init 1 = .ok (.aload_n 1, 1) := dk_43 (dk_at dksJ2_init_0 1 rfl rfl)
theorem dJ2_init_2 : decode cJ2_init 2 = .ok (.aload_n 2, 1) := dk_44 (dk_at dksJ2_init_0 2 rfl rfl)
theorem dJ2_init_3 : decode cJ2_init 3 = .ok (.iload_n 3, 1) := dk_29 (dk_at dksJ2_init_0 3 rfl rfl)
theorem dJ2_init_4 : decode cJ2_init 4 = .ok (.iload 4, 2) := dk_21 4 (dk_at dksJ2_init_0 4 rfl rfl)
theorem dJ2_init_6 : decode cJ2_init 6 = .ok (.invokespecial 16, 3) := dk_183 0 16 (dk_at dksJ2_init_0 6 rfl rfl)
theorem dJ2_init_9 : decode cJ2_init 9 = .ok (.return_, 1) := dk_177 (dk_at dksJ2_init_0 9 rfl rfl)
abbrev cJ2_init_2 : ByteArray := prog_24_method_2_code
def yJ2_init_2 : MethodName := ⟨RJ2, "<init>", "(Ljava/lang/String;)V"⟩
def dkwJ2_init_2_0 : List UInt8 := [42, 43, 183, 0, 7, 177]
abbrev dktJ2_init_2_0 : List UInt8 := dkwJ2_init_2_0 ++ []
theorem dksJ2_init_2_0 : cJ2_init_2.data.toList.drop 0 = dktJ2_init_2_0 := by decide +kernel
theorem dJ2_init_2_0 : decode cJ2_init_2 0 = .ok (.aload_n 0, 1) := dk_42 (dk_at dksJ2_init_2_0 0 rfl rfl)
theorem dJ2_init_2_1 : decode cJ2_init_2 1 = .ok (.aload_n 1, 1) := dk_43 (dk_at dksJ2_init_2_0 1 rfl rfl)
theorem dJ2_init_2_2 : decode cJ2_init_2 2 = .ok (.invokespecial 7, 3) := dk_183 0 7 (dk_at dksJ2_init_2_0 2 rfl rfl)
theorem dJ2_init_2_5 : decode cJ2_init_2 5 = .ok (.return_, 1) := dk_177 (dk_at dksJ2_init_2_0 5 rfl rfl)
theorem q86 : (Jvm.Cond.initialized "java/lang/Exception") ∈ lw_all := lw_g (lw_at lw_m1 18 rfl) rfl
theorem q633 : (Jvm.Cond.declares ({ cls := "java/lang/Exception", name := "<init>", desc := "()V" } : Jvm.MethodName)) ∈ lw_tbl := lw_at lw_m3 85 rfl
theorem q634 : (Jvm.Cond.declares ({ cls := "java/lang/Exception", name := "<init>", desc := "(Ljava/lang/String;)V" } : Jvm.MethodName)) ∈ lw_tbl := lw_at lw_m3 86 rfl
theorem q674 : (Jvm.Cond.instanceMethod ({ cls := "java/lang/Exception", name := "<init>", desc := "(Ljava/lang/String;Ljava/lang/Throwable;ZZ)V" } : Jvm.MethodName)) ∈ lw_all := lw_g (lw_at lw_m3 126 rfl) rfl
theorem q675 : (Jvm.Cond.code ({ cls := "java/lang/Exception", name := "<init>", desc := "(Ljava/lang/String;Ljava/lang/Throwable;ZZ)V" } : Jvm.MethodName) prog_24_method_5_code (5 : Nat) (Option.none : Option Jvm.ClassFile.FieldType)) ∈ lw_all := lw_g (lw_at lw_m3 127 rfl) rfl
theorem q676 : (Jvm.Cond.methodLink "java/lang/Exception" (16 : Nat) ({ cls := "java/lang/Throwable", name := "<init>", desc := "(Ljava/lang/String;Ljava/lang/Throwable;ZZ)V" } : Jvm.MethodName)) ∈ lw_all := lw_g (lw_at lw_m3 128 rfl) rfl
theorem q950 : (Jvm.Cond.instanceMethod ({ cls := "java/lang/Exception", name := "<init>", desc := "(Ljava/lang/String;)V" } : Jvm.MethodName)) ∈ lw_all := lw_g (lw_at lw_m4 162 rfl) rfl
theorem q951 : (Jvm.Cond.code ({ cls := "java/lang/Exception", name := "<init>", desc := "(Ljava/lang/String;)V" } : Jvm.MethodName) prog_24_method_2_code (2 : Nat) (Option.none : Option Jvm.ClassFile.FieldType)) ∈ lw_all := lw_g (lw_at lw_m4 163 rfl) rfl
theorem q952 : (Jvm.Cond.methodLink "java/lang/Exception" (7 : Nat) ({ cls := "java/lang/Throwable", name := "<init>", desc := "(Ljava/lang/String;)V" } : Jvm.MethodName)) ∈ lw_all := lw_g (lw_at lw_m4 164 rfl) rfl
/-! java/lang/String -/
def RJ3 : String := "java/lang/String"
def TJ3 : u_T := fun k => match k with
  | 0 => ("java/lang/String", "value", "[B", true)
  | _ => ("java/lang/String", "coder", "B", true)
def tyJ3 : Nat → FieldType := fun k => match k with
  | 0 => .array .byte
  | _ => .byte
abbrev wsJ30 : List Cond := u_ws RJ3 TJ3 2
theorem nmJ3 : ∀ a, a < 2 → ∀ b, b < 2 → a ≠ b → (TJ3 a).2.1 ≠ (TJ3 b).2.1 := by decide +kernel
theorem tyJ3_ok : ∀ k, k < 2 → parseFieldDescriptor (TJ3 k).2.2.1 = some (tyJ3 k) := by decide +kernel
abbrev cJ3_indexOf : ByteArray := prog_28_method_79_code
def yJ3_indexOf : MethodName := ⟨RJ3, "indexOf", "(I)I"⟩
def dkwJ3_indexOf_0 : List UInt8 := [42, 27, 3, 182, 2, 121, 172]
abbrev dktJ3_indexOf_0 : List UInt8 := dkwJ3_indexOf_0 ++ []
theorem dksJ3_indexOf_0 : cJ3_indexOf.data.toList.drop 0 = dktJ3_indexOf_0 := by decide +kernel
theorem dJ3_indexOf_0 : decode cJ3_indexOf 0 = .ok (.aload_n 0, 1) := dk_42 (dk_at dksJ3_indexOf_0 0 rfl rfl)
theorem dJ3_indexOf_1 : decode cJ3_indexOf 1 = .ok (.iload_n 1, 1) := dk_27 (dk_at dksJ3_indexOf_0 1 rfl rfl)
theorem dJ3_indexOf_2 : decode cJ3_indexOf 2 = .ok (.iconst 0, 1) := dk_3 (dk_at dksJ3_indexOf_0 2 rfl rfl)
theorem dJ3_indexOf_3 : decode cJ3_indexOf 3 = .ok (.invokevirtual 633, 3) := dk_182 2 121 (dk_at dksJ3_indexOf_0 3 rfl rfl)
theorem dJ3_indexOf_6 : decode cJ3_indexOf 6 = .ok (.ireturn, 1) := dk_172 (dk_at dksJ3_indexOf_0 6 rfl rfl)
abbrev cJ3_indexOf_2 : ByteArray := prog_28_method_80_code
def yJ3_indexOf_2 : MethodName := ⟨RJ3, "indexOf", "(II)I"⟩
def dkwJ3_indexOf_2_1 : List UInt8 := [180, 0, 9, 27, 28, 42, 182, 1, 249, 184, 2, 128, 172]
abbrev dktJ3_indexOf_2_1 : List UInt8 := dkwJ3_indexOf_2_1 ++ []
def dkwJ3_indexOf_2_0 : List UInt8 := [42, 182, 1, 236, 153, 0, 19, 42, 180, 0, 9, 27, 28, 42, 182, 1, 249, 184, 2, 125, 167, 0, 16, 42]
abbrev dktJ3_indexOf_2_0 : List UInt8 := dkwJ3_indexOf_2_0 ++ dktJ3_indexOf_2_1
theorem dksJ3_indexOf_2_0 : cJ3_indexOf_2.data.toList.drop 0 = dktJ3_indexOf_2_0 := by decide +kernel
theorem dksJ3_indexOf_2_1 : cJ3_indexOf_2.data.toList.drop 24 = dktJ3_indexOf_2_1 := dk_seg dksJ3_indexOf_2_0 24 rfl rfl
theorem dJ3_indexOf_2_0 : decode cJ3_indexOf_2 0 = .ok (.aload_n 0, 1) := dk_42 (dk_at dksJ3_indexOf_2_0 0 rfl rfl)
theorem dJ3_indexOf_2_1 : decode cJ3_indexOf_2 1 = .ok (.invokevirtual 492, 3) := dk_182 1 236 (dk_at dksJ3_indexOf_2_0 1 rfl rfl)
theorem dJ3_indexOf_2_4 : decode cJ3_indexOf_2 4 = .ok (.ifCond .eq 19, 3) := dk_153 0 19 (dk_at dksJ3_indexOf_2_0 4 rfl rfl)
theorem dJ3_indexOf_2_7 : decode cJ3_indexOf_2 7 = .ok (.aload_n 0, 1) := dk_42 (dk_at dksJ3_indexOf_2_0 7 rfl rfl)
theorem dJ3_indexOf_2_8 : decode cJ3_indexOf_2 8 = .ok (.getfield 9, 3) := dk_180 0 9 (dk_at dksJ3_indexOf_2_0 8 rfl rfl)
theorem dJ3_indexOf_2_11 : decode cJ3_indexOf_2 11 = .ok (.iload_n 1, 1) := dk_27 (dk_at dksJ3_indexOf_2_0 11 rfl rfl)
theorem dJ3_indexOf_2_12 : decode cJ3_indexOf_2 12 = .ok (.iload_n 2, 1) := dk_28 (dk_at dksJ3_indexOf_2_0 12 rfl rfl)
theorem dJ3_indexOf_2_13 : decode cJ3_indexOf_2 13 = .ok (.aload_n 0, 1) := dk_42 (dk_at dksJ3_indexOf_2_0 13 rfl rfl)
theorem dJ3_indexOf_2_14 : decode cJ3_indexOf_2 14 = .ok (.invokevirtual 505, 3) := dk_182 1 249 (dk_at dksJ3_indexOf_2_0 14 rfl rfl)
theorem dJ3_indexOf_2_17 : decode cJ3_indexOf_2 17 = .ok (.invokestatic 637, 3) := dk_184 2 125 (dk_at dksJ3_indexOf_2_0 17 rfl rfl)
theorem dJ3_indexOf_2_20 : decode cJ3_indexOf_2 20 = .ok (.goto 16, 3) := dk_167 0 16 (dk_at dksJ3_indexOf_2_0 20 rfl rfl)
theorem dJ3_indexOf_2_23 : decode cJ3_indexOf_2 23 = .ok (.aload_n 0, 1) := dk_42 (dk_at dksJ3_indexOf_2_0 23 rfl rfl)
theorem dJ3_indexOf_2_24 : decode cJ3_indexOf_2 24 = .ok (.getfield 9, 3) := dk_180 0 9 (dk_at dksJ3_indexOf_2_1 0 rfl rfl)
theorem dJ3_indexOf_2_27 : decode cJ3_indexOf_2 27 = .ok (.iload_n 1, 1) := dk_27 (dk_at dksJ3_indexOf_2_1 3 rfl rfl)
theorem dJ3_indexOf_2_28 : decode cJ3_indexOf_2 28 = .ok (.iload_n 2, 1) := dk_28 (dk_at dksJ3_indexOf_2_1 4 rfl rfl)
theorem dJ3_indexOf_2_29 : decode cJ3_indexOf_2 29 = .ok (.aload_n 0, 1) := dk_42 (dk_at dksJ3_indexOf_2_1 5 rfl rfl)
theorem dJ3_indexOf_2_30 : decode cJ3_indexOf_2 30 = .ok (.invokevirtual 505, 3) := dk_182 1 249 (dk_at dksJ3_indexOf_2_1 6 rfl rfl)
theorem dJ3_indexOf_2_33 : decode cJ3_indexOf_2 33 = .ok (.invokestatic 640, 3) := dk_184 2 128 (dk_at dksJ3_indexOf_2_1 9 rfl rfl)
theorem dJ3_indexOf_2_36 : decode cJ3_indexOf_2 36 = .ok (.ireturn, 1) := dk_172 (dk_at dksJ3_indexOf_2_1 12 rfl rfl)
abbrev cJ3_isLatin1 : ByteArray := prog_28_method_154_code
def yJ3_isLatin1 : MethodName := ⟨RJ3, "isLatin1", "()Z"⟩
def dkwJ3_isLatin1_0 : List UInt8 := [178, 0, 38, 153, 0, 14, 42, 180, 0, 15, 154, 0, 7, 4, 167, 0, 4, 3, 172]
abbrev dktJ3_isLatin1_0 : List UInt8 := dkwJ3_isLatin1_0 ++ []
theorem dksJ3_isLatin1_0 : cJ3_isLatin1.data.toList.drop 0 = dktJ3_isLatin1_0 := by decide +kernel
theorem dJ3_isLatin1_0 : decode cJ3_isLatin1 0 = .ok (.getstatic 38, 3) := dk_178 0 38 (dk_at dksJ3_isLatin1_0 0 rfl rfl)
theorem dJ3_isLatin1_3 : decode cJ3_isLatin1 3 = .ok (.ifCond .eq 14, 3) := dk_153 0 14 (dk_at dksJ3_isLatin1_0 3 rfl rfl)
theorem dJ3_isLatin1_6 : decode cJ3_isLatin1 6 = .ok (.aload_n 0, 1) := dk_42 (dk_at dksJ3_isLatin1_0 6 rfl rfl)
theorem dJ3_isLatin1_7 : decode cJ3_isLatin1 7 = .ok (.getfield 15, 3) := dk_180 0 15 (dk_at dksJ3_isLatin1_0 7 rfl rfl)
theorem dJ3_isLatin1_10 : decode cJ3_isLatin1 10 = .ok (.ifCond .ne 7, 3) := dk_154 0 7 (dk_at dksJ3_isLatin1_0 10 rfl rfl)
theorem dJ3_isLatin1_13 : decode cJ3_isLatin1 13 = .ok (.iconst 1, 1) := dk_4 (dk_at dksJ3_isLatin1_0 13 rfl rfl)
theorem dJ3_isLatin1_14 : decode cJ3_isLatin1 14 = .ok (.goto 4, 3) := dk_167 0 4 (dk_at dksJ3_isLatin1_0 14 rfl rfl)
theorem dJ3_isLatin1_17 : decode cJ3_isLatin1 17 = .ok (.iconst 0, 1) := dk_3 (dk_at dksJ3_isLatin1_0 17 rfl rfl)
theorem dJ3_isLatin1_18 : decode cJ3_isLatin1 18 = .ok (.ireturn, 1) := dk_172 (dk_at dksJ3_isLatin1_0 18 rfl rfl)
abbrev cJ3_length : ByteArray := prog_28_method_54_code
def yJ3_length : MethodName := ⟨RJ3, "length", "()I"⟩
def dkwJ3_length_0 : List UInt8 := [42, 180, 0, 9, 190, 42, 182, 1, 79, 122, 172]
abbrev dktJ3_length_0 : List UInt8 := dkwJ3_length_0 ++ []
theorem dksJ3_length_0 : cJ3_length.data.toList.drop 0 = dktJ3_length_0 := by decide +kernel
theorem dJ3_length_0 : decode cJ3_length 0 = .ok (.aload_n 0, 1) := dk_42 (dk_at dksJ3_length_0 0 rfl rfl)
theorem dJ3_length_1 : decode cJ3_length 1 = .ok (.getfield 9, 3) := dk_180 0 9 (dk_at dksJ3_length_0 1 rfl rfl)
theorem dJ3_length_4 : decode cJ3_length 4 = .ok (.arraylength, 1) := dk_190 (dk_at dksJ3_length_0 4 rfl rfl)
theorem dJ3_length_5 : decode cJ3_length 5 = .ok (.aload_n 0, 1) := dk_42 (dk_at dksJ3_length_0 5 rfl rfl)
theorem dJ3_length_6 : decode cJ3_length 6 = .ok (.invokevirtual 335, 3) := dk_182 1 79 (dk_at dksJ3_length_0 6 rfl rfl)
theorem dJ3_length_9 : decode cJ3_length 9 = .ok (.ishr, 1) := dk_122 (dk_at dksJ3_length_0 9 rfl rfl)
theorem dJ3_length_10 : decode cJ3_length 10 = .ok (.ireturn, 1) := dk_172 (dk_at dksJ3_length_0 10 rfl rfl)
abbrev cJ3_coder : ByteArray := prog_28_method_152_code
def yJ3_coder : MethodName := ⟨RJ3, "coder", "()B"⟩
def dkwJ3_coder_0 : List UInt8 := [178, 0, 38, 153, 0, 10, 42, 180, 0, 15, 167, 0, 4, 4, 172]
abbrev dktJ3_coder_0 : List UInt8 := dkwJ3_coder_0 ++ []
theorem dksJ3_coder_0 : cJ3_coder.data.toList.drop 0 = dktJ3_coder_0 := by decide +kernel
theorem dJ3_coder_0 : decode cJ3_coder 0 = .ok (.getstatic 38, 3) := dk_178 0 38 (dk_at dksJ3_coder_0 0 rfl rfl)
theorem dJ3_coder_3 : decode cJ3_coder 3 = .ok (.ifCond .eq 10, 3) := dk_153 0 10 (dk_at dksJ3_coder_0 3 rfl rfl)
theorem dJ3_coder_6 : decode cJ3_coder 6 = .ok (.aload_n 0, 1) := dk_42 (dk_at dksJ3_coder_0 6 rfl rfl)
theorem dJ3_coder_7 : decode cJ3_coder 7 = .ok (.getfield 15, 3) := dk_180 0 15 (dk_at dksJ3_coder_0 7 rfl rfl)
theorem dJ3_coder_10 : decode cJ3_coder 10 = .ok (.goto 4, 3) := dk_167 0 4 (dk_at dksJ3_coder_0 10 rfl rfl)
theorem dJ3_coder_13 : decode cJ3_coder 13 = .ok (.iconst 1, 1) := dk_4 (dk_at dksJ3_coder_0 13 rfl rfl)
theorem dJ3_coder_14 : decode cJ3_coder 14 = .ok (.ireturn, 1) := dk_172 (dk_at dksJ3_coder_0 14 rfl rfl)
abbrev cJ3_checkBoundsBeginEnd : ByteArray := prog_28_method_158_code
def yJ3_checkBoundsBeginEnd : MethodName := ⟨RJ3, "checkBoundsBeginEnd", "(III)V"⟩
def dkwJ3_checkBoundsBeginEnd_0 : List UInt8 := [26, 27, 28, 178, 4, 29, 184, 4, 38, 87, 177]
abbrev dktJ3_checkBoundsBeginEnd_0 : List UInt8 := dkwJ3_checkBoundsBeginEnd_0 ++ []
theorem dksJ3_checkBoundsBeginEnd_0 : cJ3_checkBoundsBeginEnd.data.toList.drop 0 = dktJ3_checkBoundsBeginEnd_0 := by decide +kernel
theorem dJ3_checkBoundsBeginEnd_0 : decode cJ3_checkBoundsBeginEnd 0 = .ok (.iload_n 0, 1) := dk_26 (dk_at dksJ3_checkBoundsBeginEnd_0 0 rfl rfl)
theorem dJ3_checkBoundsBeginEnd_1 : decode cJ3_checkBoundsBeginEnd 1 = .ok (.iload_n 1, 1) := dk_27 (dk_at dksJ3_checkBoundsBeginEnd_0 1 rfl rfl)
theorem dJ3_checkBoundsBeginEnd_2 : decode cJ3_checkBoundsBeginEnd 2 = .ok (.iload_n 2, 1) := dk_28 (dk_at dksJ3_checkBoundsBeginEnd_0 2 rfl rfl)
theorem dJ3_checkBoundsBeginEnd_3 : decode cJ3_checkBoundsBeginEnd 3 = .ok (.getstatic 1053, 3) := dk_178 4 29 (dk_at dksJ3_checkBoundsBeginEnd_0 3 rfl rfl)
theorem dJ3_checkBoundsBeginEnd_6 : decode cJ3_checkBoundsBeginEnd 6 = .ok (.invokestatic 1062, 3) := dk_184 4 38 (dk_at dksJ3_checkBoundsBeginEnd_0 6 rfl rfl)
theorem dJ3_checkBoundsBeginEnd_9 : decode cJ3_checkBoundsBeginEnd 9 = .ok (.pop, 1) := dk_87 (dk_at dksJ3_checkBoundsBeginEnd_0 9 rfl rfl)
theorem dJ3_checkBoundsBeginEnd_10 : decode cJ3_checkBoundsBeginEnd 10 = .ok (.return_, 1) := dk_177 (dk_at dksJ3_checkBoundsBeginEnd_0 10 rfl rfl)
theorem q88 : (Jvm.Cond.initialized "java/lang/String") ∈ lw_all := lw_g (lw_at lw_m1 20 rfl) rfl
theorem q709 : (Jvm.Cond.instanceMethod ({ cls := "java/lang/String", name := "indexOf", desc := "(I)I" } : Jvm.MethodName)) ∈ lw_all := lw_g (lw_at lw_m3 161 rfl) rfl
theorem q710 : (Jvm.Cond.selects "java/lang/String" ({ cls := "java/lang/String", name := "indexOf", desc := "(I)I" } : Jvm.MethodName) ({ cls := "java/lang/String", name := "indexOf", desc := "(I)I" } : Jvm.MethodName)) ∈ lw_all := lw_g (lw_at lw_m3 162 rfl) rfl
theorem q711 : (Jvm.Cond.code ({ cls := "java/lang/String", name := "indexOf", desc := "(I)I" } : Jvm.MethodName) prog_28_method_79_code (2 : Nat) (Option.some Jvm.ClassFile.FieldType.int)) ∈ lw_all := lw_g (lw_at lw_m3 163 rfl) rfl
theorem q712 : (Jvm.Cond.methodLink "java/lang/String" (633 : Nat) ({ cls := "java/lang/String", name := "indexOf", desc := "(II)I" } : Jvm.MethodName)) ∈ lw_all := lw_g (lw_at lw_m3 164 rfl) rfl
theorem q713 : (Jvm.Cond.instanceMethod ({ cls := "java/lang/String", name := "indexOf", desc := "(II)I" } : Jvm.MethodName)) ∈ lw_all := lw_g (lw_at lw_m3 165 rfl) rfl
theorem q714 : (Jvm.Cond.selects "java/lang/String" ({ cls := "java/lang/String", name := "indexOf", desc := "(II)I" } : Jvm.MethodName) ({ cls := "java/lang/String", name := "indexOf", desc := "(II)I" } : Jvm.MethodName)) ∈ lw_all := lw_g (lw_at lw_m3 166 rfl) rfl
theorem q715 : (Jvm.Cond.code ({ cls := "java/lang/String", name := "indexOf", desc := "(II)I" } : Jvm.MethodName) prog_28_method_80_code (3 : Nat) (Option.some Jvm.ClassFile.FieldType.int)) ∈ lw_all := lw_g (lw_at lw_m3 167 rfl) rfl
theorem q716 : (Jvm.Cond.methodLink "java/lang/String" (492 : Nat) ({ cls := "java/lang/String", name := "isLatin1", desc := "()Z" } : Jvm.MethodName)) ∈ lw_all := lw_g (lw_at lw_m3 168 rfl) rfl
theorem q717 : (Jvm.Cond.instanceMethod ({ cls := "java/lang/String", name := "isLatin1", desc := "()Z" } : Jvm.MethodName)) ∈ lw_all := lw_g (lw_at lw_m3 169 rfl) rfl
theorem q718 : (Jvm.Cond.selects "java/lang/String" ({ cls := "java/lang/String", name := "isLatin1", desc := "()Z" } : Jvm.MethodName) ({ cls := "java/lang/String", name := "isLatin1", desc := "()Z" } : Jvm.MethodName)) ∈ lw_all := lw_g (lw_at lw_m3 170 rfl) rfl
theorem q719 : (Jvm.Cond.code ({ cls := "java/lang/String", name := "isLatin1", desc := "()Z" } : Jvm.MethodName) prog_28_method_154_code (1 : Nat) (Option.some Jvm.ClassFile.FieldType.boolean)) ∈ lw_all := lw_g (lw_at lw_m3 171 rfl) rfl
theorem q720 : (Jvm.Cond.fieldLink "java/lang/String" (38 : Nat) "java/lang/String" "COMPACT_STRINGS" "Z") ∈ lw_all := lw_g (lw_at lw_m3 172 rfl) rfl
theorem q721 : (Jvm.Cond.laysStatic "java/lang/String" "COMPACT_STRINGS" "Z") ∈ lw_tbl := lw_at lw_m3 173 rfl
theorem q722 : (Jvm.Cond.methodLink "java/lang/String" (505 : Nat) ({ cls := "java/lang/String", name := "length", desc := "()I" } : Jvm.MethodName)) ∈ lw_all := lw_g (lw_at lw_m3 174 rfl) rfl
theorem q723 : (Jvm.Cond.instanceMethod ({ cls := "java/lang/String", name := "length", desc := "()I" } : Jvm.MethodName)) ∈ lw_all := lw_g (lw_at lw_m3 175 rfl) rfl
theorem q724 : (Jvm.Cond.selects "java/lang/String" ({ cls := "java/lang/String", name := "length", desc := "()I" } : Jvm.MethodName) ({ cls := "java/lang/String", name := "length", desc := "()I" } : Jvm.MethodName)) ∈ lw_all := lw_g (lw_at lw_m3 176 rfl) rfl
theorem q725 : (Jvm.Cond.code ({ cls := "java/lang/String", name := "length", desc := "()I" } : Jvm.MethodName) prog_28_method_54_code (1 : Nat) (Option.some Jvm.ClassFile.FieldType.int)) ∈ lw_all := lw_g (lw_at lw_m3 177 rfl) rfl
theorem q726 : (Jvm.Cond.methodLink "java/lang/String" (335 : Nat) ({ cls := "java/lang/String", name := "coder", desc := "()B" } : Jvm.MethodName)) ∈ lw_all := lw_g (lw_at lw_m3 178 rfl) rfl
theorem q727 : (Jvm.Cond.instanceMethod ({ cls := "java/lang/String", name := "coder", desc := "()B" } : Jvm.MethodName)) ∈ lw_all := lw_g (lw_at lw_m3 179 rfl) rfl
theorem q728 : (Jvm.Cond.selects "java/lang/String" ({ cls := "java/lang/String", name := "coder", desc := "()B" } : Jvm.MethodName) ({ cls := "java/lang/String", name := "coder", desc := "()B" } : Jvm.MethodName)) ∈ lw_all := lw_g (lw_at lw_m3 180 rfl) rfl
theorem q729 : (Jvm.Cond.code ({ cls := "java/lang/String", name := "coder", desc := "()B" } : Jvm.MethodName) prog_28_method_152_code (1 : Nat) (Option.some Jvm.ClassFile.FieldType.byte)) ∈ lw_all := lw_g (lw_at lw_m3 181 rfl) rfl
theorem q730 : (Jvm.Cond.methodLink "java/lang/String" (637 : Nat) ({ cls := "java/lang/StringLatin1", name := "indexOf", desc := "([BIII)I" } : Jvm.MethodName)) ∈ lw_all := lw_g (lw_at lw_m3 182 rfl) rfl
theorem q741 : (Jvm.Cond.methodLink "java/lang/String" (640 : Nat) ({ cls := "java/lang/StringUTF16", name := "indexOf", desc := "([BIII)I" } : Jvm.MethodName)) ∈ lw_all := lw_g (lw_at lw_m3 193 rfl) rfl
theorem q757 : (Jvm.Cond.static ({ cls := "java/lang/String", name := "checkBoundsBeginEnd", desc := "(III)V" } : Jvm.MethodName)) ∈ lw_all := lw_g (lw_at lw_m3 209 rfl) rfl
theorem q758 : (Jvm.Cond.code ({ cls := "java/lang/String", name := "checkBoundsBeginEnd", desc := "(III)V" } : Jvm.MethodName) prog_28_method_158_code (3 : Nat) (Option.none : Option Jvm.ClassFile.FieldType)) ∈ lw_all := lw_g (lw_at lw_m3 210 rfl) rfl
theorem q759 : (Jvm.Cond.fieldLink "java/lang/String" (1053 : Nat) "jdk/internal/util/Preconditions" "SIOOBE_FORMATTER" "Ljava/util/function/BiFunction;") ∈ lw_all := lw_g (lw_at lw_m3 211 rfl) rfl
theorem q761 : (Jvm.Cond.methodLink "java/lang/String" (1062 : Nat) ({ cls := "jdk/internal/util/Preconditions", name := "checkFromToIndex", desc := "(IIILjava/util/function/BiFunction;)I" } : Jvm.MethodName)) ∈ lw_all := lw_g (lw_at lw_m3 213 rfl) rfl
theorem q966 : (Jvm.Cond.instantiable "java/lang/String" (4 : Nat)) ∈ lw_all := lw_g (lw_at lw_m4 178 rfl) rfl
theorem q967 : (Jvm.Cond.laysFinal "java/lang/String" "java/lang/String" "value" "[B") ∈ lw_all := lw_g (lw_at lw_m4 179 rfl) rfl
theorem q968 : (Jvm.Cond.soleField "java/lang/String" "value") ∈ lw_all := lw_g (lw_at lw_m4 180 rfl) rfl
theorem q969 : (Jvm.Cond.laysFinal "java/lang/String" "java/lang/String" "coder" "B") ∈ lw_all := lw_g (lw_at lw_m4 181 rfl) rfl
theorem q970 : (Jvm.Cond.soleField "java/lang/String" "coder") ∈ lw_all := lw_g (lw_at lw_m4 182 rfl) rfl
theorem q1604 : (Jvm.Cond.fieldLink "java/lang/String" (15 : Nat) "java/lang/String" "coder" "B") ∈ lw_all := lw_g (lw_at lw_m7 96 rfl) rfl
theorem q1605 : (Jvm.Cond.fieldLink "java/lang/String" (9 : Nat) "java/lang/String" "value" "[B") ∈ lw_all := lw_g (lw_at lw_m7 97 rfl) rfl
theorem in_J3 : ∀ w ∈ wsJ30, w ∈ lw_all := lw_in wsJ30 [967, 969] (by decide +kernel) (by decide +kernel)
/-! java/lang/StringLatin1 -/
def RJ4 : String := "java/lang/StringLatin1"
abbrev cJ4_indexOf : ByteArray := prog_29_method_22_code
def yJ4_indexOf : MethodName := ⟨RJ4, "indexOf", "([BIII)I"⟩
def dkwJ4_indexOf_1 : List UInt8 := [161, 0, 5, 2, 172, 42, 27, 28, 29, 184, 0, 95, 172]
abbrev dktJ4_indexOf_1 : List UInt8 := dkwJ4_indexOf_1 ++ []
def dkwJ4_indexOf_0 : List UInt8 := [27, 184, 0, 88, 154, 0, 5, 2, 172, 28, 3, 184, 0, 92, 61, 29, 42, 190, 184, 0, 38, 62, 28, 29]
abbrev dktJ4_indexOf_0 : List UInt8 := dkwJ4_indexOf_0 ++ dktJ4_indexOf_1
theorem dksJ4_indexOf_0 : cJ4_indexOf.data.toList.drop 0 = dktJ4_indexOf_0 := by decide +kernel
theorem dksJ4_indexOf_1 : cJ4_indexOf.data.toList.drop 24 = dktJ4_indexOf_1 := dk_seg dksJ4_indexOf_0 24 rfl rfl
theorem dJ4_indexOf_0 : decode cJ4_indexOf 0 = .ok (.iload_n 1, 1) := dk_27 (dk_at dksJ4_indexOf_0 0 rfl rfl)
theorem dJ4_indexOf_1 : decode cJ4_indexOf 1 = .ok (.invokestatic 88, 3) := dk_184 0 88 (dk_at dksJ4_indexOf_0 1 rfl rfl)
theorem dJ4_indexOf_4 : decode cJ4_indexOf 4 = .ok (.ifCond .ne 5, 3) := dk_154 0 5 (dk_at dksJ4_indexOf_0 4 rfl rfl)
theorem dJ4_indexOf_7 : decode cJ4_indexOf 7 = .ok (.iconst (-1), 1) := dk_2 (dk_at dksJ4_indexOf_0 7 rfl rfl)
theorem dJ4_indexOf_8 : decode cJ4_indexOf 8 = .ok (.ireturn, 1) := dk_172 (dk_at dksJ4_indexOf_0 8 rfl rfl)
theorem dJ4_indexOf_9 : decode cJ4_indexOf 9 = .ok (.iload_n 2, 1) := dk_28 (dk_at dksJ4_indexOf_0 9 rfl rfl)
theorem dJ4_indexOf_10 : decode cJ4_indexOf 10 = .ok (.iconst 0, 1) := dk_3 (dk_at dksJ4_indexOf_0 10 rfl rfl)
theorem dJ4_indexOf_11 : decode cJ4_indexOf 11 = .ok (.invokestatic 92, 3) := dk_184 0 92 (dk_at dksJ4_indexOf_0 11 rfl rfl)
theorem dJ4_indexOf_14 : decode cJ4_indexOf 14 = .ok (.istore_n 2, 1) := dk_61 (dk_at dksJ4_indexOf_0 14 rfl rfl)
theorem dJ4_indexOf_15 : decode cJ4_indexOf 15 = .ok (.iload_n 3, 1) := dk_29 (dk_at dksJ4_indexOf_0 15 rfl rfl)
theorem dJ4_indexOf_16 : decode cJ4_indexOf 16 = .ok (.aload_n 0, 1) := dk_42 (dk_at dksJ4_indexOf_0 16 rfl rfl)
theorem dJ4_indexOf_17 : decode cJ4_indexOf 17 = .ok (.arraylength, 1) := dk_190 (dk_at dksJ4_indexOf_0 17 rfl rfl)
theorem dJ4_indexOf_18 : decode cJ4_indexOf 18 = .ok (.invokestatic 38, 3) := dk_184 0 38 (dk_at dksJ4_indexOf_0 18 rfl rfl)
theorem dJ4_indexOf_21 : decode cJ4_indexOf 21 = .ok (.istore_n 3, 1) := dk_62 (dk_at dksJ4_indexOf_0 21 rfl rfl)
theorem dJ4_indexOf_22 : decode cJ4_indexOf 22 = .ok (.iload_n 2, 1) := dk_28 (dk_at dksJ4_indexOf_0 22 rfl rfl)
theorem dJ4_indexOf_23 : decode cJ4_indexOf 23 = .ok (.iload_n 3, 1) := dk_29 (dk_at dksJ4_indexOf_0 23 rfl rfl)
theorem dJ4_indexOf_24 : decode cJ4_indexOf 24 = .ok (.if_icmp .lt 5, 3) := dk_161 0 5 (dk_at dksJ4_indexOf_1 0 rfl rfl)
theorem dJ4_indexOf_27 : decode cJ4_indexOf 27 = .ok (.iconst (-1), 1) := dk_2 (dk_at dksJ4_indexOf_1 3 rfl rfl)
theorem dJ4_indexOf_28 : decode cJ4_indexOf 28 = .ok (.ireturn, 1) := dk_172 (dk_at dksJ4_indexOf_1 4 rfl rfl)
theorem dJ4_indexOf_29 : decode cJ4_indexOf 29 = .ok (.aload_n 0, 1) := dk_42 (dk_at dksJ4_indexOf_1 5 rfl rfl)
theorem dJ4_indexOf_30 : decode cJ4_indexOf 30 = .ok (.iload_n 1, 1) := dk_27 (dk_at dksJ4_indexOf_1 6 rfl rfl)
theorem dJ4_indexOf_31 : decode cJ4_indexOf 31 = .ok (.iload_n 2, 1) := dk_28 (dk_at dksJ4_indexOf_1 7 rfl rfl)
theorem dJ4_indexOf_32 : decode cJ4_indexOf 32 = .ok (.iload_n 3, 1) := dk_29 (dk_at dksJ4_indexOf_1 8 rfl rfl)
theorem dJ4_indexOf_33 : decode cJ4_indexOf 33 = .ok (.invokestatic 95, 3) := dk_184 0 95 (dk_at dksJ4_indexOf_1 9 rfl rfl)
theorem dJ4_indexOf_36 : decode cJ4_indexOf 36 = .ok (.ireturn, 1) := dk_172 (dk_at dksJ4_indexOf_1 12 rfl rfl)
abbrev cJ4_canEncode : ByteArray := prog_29_method_4_code
def yJ4_canEncode : MethodName := ⟨RJ4, "canEncode", "(I)Z"⟩
def dkwJ4_canEncode_0 : List UInt8 := [26, 155, 0, 14, 26, 17, 0, 255, 163, 0, 7, 4, 167, 0, 4, 3, 172]
abbrev dktJ4_canEncode_0 : List UInt8 := dkwJ4_canEncode_0 ++ []
theorem dksJ4_canEncode_0 : cJ4_canEncode.data.toList.drop 0 = dktJ4_canEncode_0 := by decide +kernel
theorem dJ4_canEncode_0 : decode cJ4_canEncode 0 = .ok (.iload_n 0, 1) := dk_26 (dk_at dksJ4_canEncode_0 0 rfl rfl)
theorem dJ4_canEncode_1 : decode cJ4_canEncode 1 = .ok (.ifCond .lt 14, 3) := dk_155 0 14 (dk_at dksJ4_canEncode_0 1 rfl rfl)
theorem dJ4_canEncode_4 : decode cJ4_canEncode 4 = .ok (.iload_n 0, 1) := dk_26 (dk_at dksJ4_canEncode_0 4 rfl rfl)
theorem dJ4_canEncode_5 : decode cJ4_canEncode 5 = .ok (.sipush 255, 3) := dk_17 0 255 (dk_at dksJ4_canEncode_0 5 rfl rfl)
theorem dJ4_canEncode_8 : decode cJ4_canEncode 8 = .ok (.if_icmp .gt 7, 3) := dk_163 0 7 (dk_at dksJ4_canEncode_0 8 rfl rfl)
theorem dJ4_canEncode_11 : decode cJ4_canEncode 11 = .ok (.iconst 1, 1) := dk_4 (dk_at dksJ4_canEncode_0 11 rfl rfl)
theorem dJ4_canEncode_12 : decode cJ4_canEncode 12 = .ok (.goto 4, 3) := dk_167 0 4 (dk_at dksJ4_canEncode_0 12 rfl rfl)
theorem dJ4_canEncode_15 : decode cJ4_canEncode 15 = .ok (.iconst 0, 1) := dk_3 (dk_at dksJ4_canEncode_0 15 rfl rfl)
theorem dJ4_canEncode_16 : decode cJ4_canEncode 16 = .ok (.ireturn, 1) := dk_172 (dk_at dksJ4_canEncode_0 16 rfl rfl)
abbrev cJ4_indexOfChar : ByteArray := prog_29_method_23_code
def yJ4_indexOfChar : MethodName := ⟨RJ4, "indexOfChar", "([BIII)I"⟩
def dkwJ4_indexOfChar_1 : List UInt8 := [172, 132, 5, 1, 167, 255, 235, 2, 172]
abbrev dktJ4_indexOfChar_1 : List UInt8 := dkwJ4_indexOfChar_1 ++ []
def dkwJ4_indexOfChar_0 : List UInt8 := [27, 145, 54, 4, 28, 54, 5, 21, 5, 29, 162, 0, 21, 42, 21, 5, 51, 21, 4, 160, 0, 6, 21, 5]
abbrev dktJ4_indexOfChar_0 : List UInt8 := dkwJ4_indexOfChar_0 ++ dktJ4_indexOfChar_1
theorem dksJ4_indexOfChar_0 : cJ4_indexOfChar.data.toList.drop 0 = dktJ4_indexOfChar_0 := by decide +kernel
theorem dksJ4_indexOfChar_1 : cJ4_indexOfChar.data.toList.drop 24 = dktJ4_indexOfChar_1 := dk_seg dksJ4_indexOfChar_0 24 rfl rfl
theorem dJ4_indexOfChar_0 : decode cJ4_indexOfChar 0 = .ok (.iload_n 1, 1) := dk_27 (dk_at dksJ4_indexOfChar_0 0 rfl rfl)
theorem dJ4_indexOfChar_1 : decode cJ4_indexOfChar 1 = .ok (.i2b, 1) := dk_145 (dk_at dksJ4_indexOfChar_0 1 rfl rfl)
theorem dJ4_indexOfChar_2 : decode cJ4_indexOfChar 2 = .ok (.istore 4, 2) := dk_54 4 (dk_at dksJ4_indexOfChar_0 2 rfl rfl)
theorem dJ4_indexOfChar_4 : decode cJ4_indexOfChar 4 = .ok (.iload_n 2, 1) := dk_28 (dk_at dksJ4_indexOfChar_0 4 rfl rfl)
theorem dJ4_indexOfChar_5 : decode cJ4_indexOfChar 5 = .ok (.istore 5, 2) := dk_54 5 (dk_at dksJ4_indexOfChar_0 5 rfl rfl)
theorem dJ4_indexOfChar_7 : decode cJ4_indexOfChar 7 = .ok (.iload 5, 2) := dk_21 5 (dk_at dksJ4_indexOfChar_0 7 rfl rfl)
theorem dJ4_indexOfChar_9 : decode cJ4_indexOfChar 9 = .ok (.iload_n 3, 1) := dk_29 (dk_at dksJ4_indexOfChar_0 9 rfl rfl)
theorem dJ4_indexOfChar_10 : decode cJ4_indexOfChar 10 = .ok (.if_icmp .ge 21, 3) := dk_162 0 21 (dk_at dksJ4_indexOfChar_0 10 rfl rfl)
theorem dJ4_indexOfChar_13 : decode cJ4_indexOfChar 13 = .ok (.aload_n 0, 1) := dk_42 (dk_at dksJ4_indexOfChar_0 13 rfl rfl)
theorem dJ4_indexOfChar_14 : decode cJ4_indexOfChar 14 = .ok (.iload 5, 2) := dk_21 5 (dk_at dksJ4_indexOfChar_0 14 rfl rfl)
theorem dJ4_indexOfChar_16 : decode cJ4_indexOfChar 16 = .ok (.baload, 1) := dk_51 (dk_at dksJ4_indexOfChar_0 16 rfl rfl)
theorem dJ4_indexOfChar_17 : decode cJ4_indexOfChar 17 = .ok (.iload 4, 2) := dk_21 4 (dk_at dksJ4_indexOfChar_0 17 rfl rfl)
theorem dJ4_indexOfChar_19 : decode cJ4_indexOfChar 19 = .ok (.if_icmp .ne 6, 3) := dk_160 0 6 (dk_at dksJ4_indexOfChar_0 19 rfl rfl)
theorem dJ4_indexOfChar_22 : decode cJ4_indexOfChar 22 = .ok (.iload 5, 2) := dk_21 5 (dk_at dksJ4_indexOfChar_0 22 rfl rfl)
theorem dJ4_indexOfChar_24 : decode cJ4_indexOfChar 24 = .ok (.ireturn, 1) := dk_172 (dk_at dksJ4_indexOfChar_1 0 rfl rfl)
theorem dJ4_indexOfChar_25 : decode cJ4_indexOfChar 25 = .ok (.iinc 5 1, 3) := dk_132 5 1 (dk_at dksJ4_indexOfChar_1 1 rfl rfl)
theorem dJ4_indexOfChar_28 : decode cJ4_indexOfChar 28 = .ok (.goto (-21), 3) := dk_167 255 235 (dk_at dksJ4_indexOfChar_1 4 rfl rfl)
theorem dJ4_indexOfChar_31 : decode cJ4_indexOfChar 31 = .ok (.iconst (-1), 1) := dk_2 (dk_at dksJ4_indexOfChar_1 7 rfl rfl)
theorem dJ4_indexOfChar_32 : decode cJ4_indexOfChar 32 = .ok (.ireturn, 1) := dk_172 (dk_at dksJ4_indexOfChar_1 8 rfl rfl)
theorem q89 : (Jvm.Cond.initialized "java/lang/StringLatin1") ∈ lw_all := lw_g (lw_at lw_m1 21 rfl) rfl
theorem q731 : (Jvm.Cond.static ({ cls := "java/lang/StringLatin1", name := "indexOf", desc := "([BIII)I" } : Jvm.MethodName)) ∈ lw_all := lw_g (lw_at lw_m3 183 rfl) rfl
theorem q732 : (Jvm.Cond.code ({ cls := "java/lang/StringLatin1", name := "indexOf", desc := "([BIII)I" } : Jvm.MethodName) prog_29_method_22_code (4 : Nat) (Option.some Jvm.ClassFile.FieldType.int)) ∈ lw_all := lw_g (lw_at lw_m3 184 rfl) rfl
theorem q733 : (Jvm.Cond.methodLink "java/lang/StringLatin1" (88 : Nat) ({ cls := "java/lang/StringLatin1", name := "canEncode", desc := "(I)Z" } : Jvm.MethodName)) ∈ lw_all := lw_g (lw_at lw_m3 185 rfl) rfl
theorem q734 : (Jvm.Cond.static ({ cls := "java/lang/StringLatin1", name := "canEncode", desc := "(I)Z" } : Jvm.MethodName)) ∈ lw_all := lw_g (lw_at lw_m3 186 rfl) rfl
theorem q735 : (Jvm.Cond.code ({ cls := "java/lang/StringLatin1", name := "canEncode", desc := "(I)Z" } : Jvm.MethodName) prog_29_method_4_code (1 : Nat) (Option.some Jvm.ClassFile.FieldType.boolean)) ∈ lw_all := lw_g (lw_at lw_m3 187 rfl) rfl
theorem q736 : (Jvm.Cond.methodLink "java/lang/StringLatin1" (92 : Nat) ({ cls := "java/lang/Math", name := "max", desc := "(II)I" } : Jvm.MethodName)) ∈ lw_all := lw_g (lw_at lw_m3 188 rfl) rfl
theorem q737 : (Jvm.Cond.methodLink "java/lang/StringLatin1" (38 : Nat) ({ cls := "java/lang/Math", name := "min", desc := "(II)I" } : Jvm.MethodName)) ∈ lw_all := lw_g (lw_at lw_m3 189 rfl) rfl
theorem q738 : (Jvm.Cond.methodLink "java/lang/StringLatin1" (95 : Nat) ({ cls := "java/lang/StringLatin1", name := "indexOfChar", desc := "([BIII)I" } : Jvm.MethodName)) ∈ lw_all := lw_g (lw_at lw_m3 190 rfl) rfl
theorem q739 : (Jvm.Cond.static ({ cls := "java/lang/StringLatin1", name := "indexOfChar", desc := "([BIII)I" } : Jvm.MethodName)) ∈ lw_all := lw_g (lw_at lw_m3 191 rfl) rfl
theorem q740 : (Jvm.Cond.code ({ cls := "java/lang/StringLatin1", name := "indexOfChar", desc := "([BIII)I" } : Jvm.MethodName) prog_29_method_23_code (6 : Nat) (Option.some Jvm.ClassFile.FieldType.int)) ∈ lw_all := lw_g (lw_at lw_m3 192 rfl) rfl
/-! java/lang/StringUTF16 -/
def RJ5 : String := "java/lang/StringUTF16"
abbrev cJ5_indexOf : ByteArray := prog_30_method_40_code
def yJ5_indexOf : MethodName := ⟨RJ5, "indexOf", "([BIII)I"⟩
def dkwJ5_indexOf_1 : List UInt8 := [18, 227, 162, 0, 11, 42, 27, 28, 29, 184, 0, 228, 172, 42, 27, 28, 29, 184, 0, 232, 172]
abbrev dktJ5_indexOf_1 : List UInt8 := dkwJ5_indexOf_1 ++ []
def dkwJ5_indexOf_0 : List UInt8 := [28, 3, 184, 0, 224, 61, 29, 42, 190, 4, 122, 184, 0, 183, 62, 28, 29, 161, 0, 5, 2, 172, 27]
abbrev dktJ5_indexOf_0 : List UInt8 := dkwJ5_indexOf_0 ++ dktJ5_indexOf_1
theorem dksJ5_indexOf_0 : cJ5_indexOf.data.toList.drop 0 = dktJ5_indexOf_0 := by decide +kernel
theorem dksJ5_indexOf_1 : cJ5_indexOf.data.toList.drop 23 = dktJ5_indexOf_1 := dk_seg dksJ5_indexOf_0 23 rfl rfl
theorem dJ5_indexOf_0 : decode cJ5_indexOf 0 = .ok (.iload_n 2, 1) := dk_28 (dk_at dksJ5_indexOf_0 0 rfl rfl)
theorem dJ5_indexOf_1 : decode cJ5_indexOf 1 = .ok (.iconst 0, 1) := dk_3 (dk_at dksJ5_indexOf_0 1 rfl rfl)
theorem dJ5_indexOf_2 : decode cJ5_indexOf 2 = .ok (.invokestatic 224, 3) := dk_184 0 224 (dk_at dksJ5_indexOf_0 2 rfl rfl)
theorem dJ5_indexOf_5 : decode cJ5_indexOf 5 = .ok (.istore_n 2, 1) := dk_61 (dk_at dksJ5_indexOf_0 5 rfl rfl)
theorem dJ5_indexOf_6 : decode cJ5_indexOf 6 = .ok (.iload_n 3, 1) := dk_29 (dk_at dksJ5_indexOf_0 6 rfl rfl)
theorem dJ5_indexOf_7 : decode cJ5_indexOf 7 = .ok (.aload_n 0, 1) := dk_42 (dk_at dksJ5_indexOf_0 7 rfl rfl)
theorem dJ5_indexOf_8 : decode cJ5_indexOf 8 = .ok (.arraylength, 1) := dk_190 (dk_at dksJ5_indexOf_0 8 rfl rfl)
theorem dJ5_indexOf_9 : decode cJ5_indexOf 9 = .ok (.iconst 1, 1) := dk_4 (dk_at dksJ5_indexOf_0 9 rfl rfl)
theorem dJ5_indexOf_10 : decode cJ5_indexOf 10 = .ok (.ishr, 1) := dk_122 (dk_at dksJ5_indexOf_0 10 rfl rfl)
theorem dJ5_indexOf_11 : decode cJ5_indexOf 11 = .ok (.invokestatic 183, 3) := dk_184 0 183 (dk_at dksJ5_indexOf_0 11 rfl rfl)
theorem dJ5_indexOf_14 : decode cJ5_indexOf 14 = .ok (.istore_n 3, 1) := dk_62 (dk_at dksJ5_indexOf_0 14 rfl rfl)
theorem dJ5_indexOf_15 : decode cJ5_indexOf 15 = .ok (.iload_n 2, 1) := dk_28 (dk_at dksJ5_indexOf_0 15 rfl rfl)
theorem dJ5_indexOf_16 : decode cJ5_indexOf 16 = .ok (.iload_n 3, 1) := dk_29 (dk_at dksJ5_indexOf_0 16 rfl rfl)
theorem dJ5_indexOf_17 : decode cJ5_indexOf 17 = .ok (.if_icmp .lt 5, 3) := dk_161 0 5 (dk_at dksJ5_indexOf_0 17 rfl rfl)
theorem dJ5_indexOf_20 : decode cJ5_indexOf 20 = .ok (.iconst (-1), 1) := dk_2 (dk_at dksJ5_indexOf_0 20 rfl rfl)
theorem dJ5_indexOf_21 : decode cJ5_indexOf 21 = .ok (.ireturn, 1) := dk_172 (dk_at dksJ5_indexOf_0 21 rfl rfl)
theorem dJ5_indexOf_22 : decode cJ5_indexOf 22 = .ok (.iload_n 1, 1) := dk_27 (dk_at dksJ5_indexOf_0 22 rfl rfl)
theorem dJ5_indexOf_23 : decode cJ5_indexOf 23 = .ok (.ldc 227, 2) := dk_18 227 (dk_at dksJ5_indexOf_1 0 rfl rfl)
theorem dJ5_indexOf_25 : decode cJ5_indexOf 25 = .ok (.if_icmp .ge 11, 3) := dk_162 0 11 (dk_at dksJ5_indexOf_1 2 rfl rfl)
theorem dJ5_indexOf_28 : decode cJ5_indexOf 28 = .ok (.aload_n 0, 1) := dk_42 (dk_at dksJ5_indexOf_1 5 rfl rfl)
theorem dJ5_indexOf_29 : decode cJ5_indexOf 29 = .ok (.iload_n 1, 1) := dk_27 (dk_at dksJ5_indexOf_1 6 rfl rfl)
theorem dJ5_indexOf_30 : decode cJ5_indexOf 30 = .ok (.iload_n 2, 1) := dk_28 (dk_at dksJ5_indexOf_1 7 rfl rfl)
theorem dJ5_indexOf_31 : decode cJ5_indexOf 31 = .ok (.iload_n 3, 1) := dk_29 (dk_at dksJ5_indexOf_1 8 rfl rfl)
theorem dJ5_indexOf_32 : decode cJ5_indexOf 32 = .ok (.invokestatic 228, 3) := dk_184 0 228 (dk_at dksJ5_indexOf_1 9 rfl rfl)
theorem dJ5_indexOf_35 : decode cJ5_indexOf 35 = .ok (.ireturn, 1) := dk_172 (dk_at dksJ5_indexOf_1 12 rfl rfl)
theorem dJ5_indexOf_36 : decode cJ5_indexOf 36 = .ok (.aload_n 0, 1) := dk_42 (dk_at dksJ5_indexOf_1 13 rfl rfl)
theorem dJ5_indexOf_37 : decode cJ5_indexOf 37 = .ok (.iload_n 1, 1) := dk_27 (dk_at dksJ5_indexOf_1 14 rfl rfl)
theorem dJ5_indexOf_38 : decode cJ5_indexOf 38 = .ok (.iload_n 2, 1) := dk_28 (dk_at dksJ5_indexOf_1 15 rfl rfl)
theorem dJ5_indexOf_39 : decode cJ5_indexOf 39 = .ok (.iload_n 3, 1) := dk_29 (dk_at dksJ5_indexOf_1 16 rfl rfl)
theorem dJ5_indexOf_40 : decode cJ5_indexOf 40 = .ok (.invokestatic 232, 3) := dk_184 0 232 (dk_at dksJ5_indexOf_1 17 rfl rfl)
theorem dJ5_indexOf_43 : decode cJ5_indexOf 43 = .ok (.ireturn, 1) := dk_172 (dk_at dksJ5_indexOf_1 20 rfl rfl)
abbrev cJ5_indexOfChar : ByteArray := prog_30_method_47_code
def yJ5_indexOfChar : MethodName := ⟨RJ5, "indexOfChar", "([BIII)I"⟩
def dkwJ5_indexOfChar_0 : List UInt8 := [28, 29, 42, 184, 0, 96, 42, 27, 28, 29, 184, 0, 244, 172]
abbrev dktJ5_indexOfChar_0 : List UInt8 := dkwJ5_indexOfChar_0 ++ []
theorem dksJ5_indexOfChar_0 : cJ5_indexOfChar.data.toList.drop 0 = dktJ5_indexOfChar_0 := by decide +kernel
theorem dJ5_indexOfChar_0 : decode cJ5_indexOfChar 0 = .ok (.iload_n 2, 1) := dk_28 (dk_at dksJ5_indexOfChar_0 0 rfl rfl)
theorem dJ5_indexOfChar_1 : decode cJ5_indexOfChar 1 = .ok (.iload_n 3, 1) := dk_29 (dk_at dksJ5_indexOfChar_0 1 rfl rfl)
theorem dJ5_indexOfChar_2 : decode cJ5_indexOfChar 2 = .ok (.aload_n 0, 1) := dk_42 (dk_at dksJ5_indexOfChar_0 2 rfl rfl)
theorem dJ5_indexOfChar_3 : decode cJ5_indexOfChar 3 = .ok (.invokestatic 96, 3) := dk_184 0 96 (dk_at dksJ5_indexOfChar_0 3 rfl rfl)
theorem dJ5_indexOfChar_6 : decode cJ5_indexOfChar 6 = .ok (.aload_n 0, 1) := dk_42 (dk_at dksJ5_indexOfChar_0 6 rfl rfl)
theorem dJ5_indexOfChar_7 : decode cJ5_indexOfChar 7 = .ok (.iload_n 1, 1) := dk_27 (dk_at dksJ5_indexOfChar_0 7 rfl rfl)
theorem dJ5_indexOfChar_8 : decode cJ5_indexOfChar 8 = .ok (.iload_n 2, 1) := dk_28 (dk_at dksJ5_indexOfChar_0 8 rfl rfl)
theorem dJ5_indexOfChar_9 : decode cJ5_indexOfChar 9 = .ok (.iload_n 3, 1) := dk_29 (dk_at dksJ5_indexOfChar_0 9 rfl rfl)
theorem dJ5_indexOfChar_10 : decode cJ5_indexOfChar 10 = .ok (.invokestatic 244, 3) := dk_184 0 244 (dk_at dksJ5_indexOfChar_0 10 rfl rfl)
theorem dJ5_indexOfChar_13 : decode cJ5_indexOfChar 13 = .ok (.ireturn, 1) := dk_172 (dk_at dksJ5_indexOfChar_0 13 rfl rfl)
abbrev cJ5_checkBoundsBeginEnd : ByteArray := prog_30_method_93_code
def yJ5_checkBoundsBeginEnd : MethodName := ⟨RJ5, "checkBoundsBeginEnd", "(II[B)V"⟩
def dkwJ5_checkBoundsBeginEnd_0 : List UInt8 := [26, 27, 44, 184, 0, 48, 184, 0, 241, 177]
abbrev dktJ5_checkBoundsBeginEnd_0 : List UInt8 := dkwJ5_checkBoundsBeginEnd_0 ++ []
theorem dksJ5_checkBoundsBeginEnd_0 : cJ5_checkBoundsBeginEnd.data.toList.drop 0 = dktJ5_checkBoundsBeginEnd_0 := by decide +kernel
theorem dJ5_checkBoundsBeginEnd_0 : decode cJ5_checkBoundsBeginEnd 0 = .ok (.iload_n 0, 1) := dk_26 (dk_at dksJ5_checkBoundsBeginEnd_0 0 rfl rfl)
theorem dJ5_checkBoundsBeginEnd_1 : decode cJ5_checkBoundsBeginEnd 1 = .ok (.iload_n 1, 1) := dk_27 (dk_at dksJ5_checkBoundsBeginEnd_0 1 rfl rfl)
theorem dJ5_checkBoundsBeginEnd_2 : decode cJ5_checkBoundsBeginEnd 2 = .ok (.aload_n 2, 1) := dk_44 (dk_at dksJ5_checkBoundsBeginEnd_0 2 rfl rfl)
theorem dJ5_checkBoundsBeginEnd_3 : decode cJ5_checkBoundsBeginEnd 3 = .ok (.invokestatic 48, 3) := dk_184 0 48 (dk_at dksJ5_checkBoundsBeginEnd_0 3 rfl rfl)
theorem dJ5_checkBoundsBeginEnd_6 : decode cJ5_checkBoundsBeginEnd 6 = .ok (.invokestatic 241, 3) := dk_184 0 241 (dk_at dksJ5_checkBoundsBeginEnd_0 6 rfl rfl)
theorem dJ5_checkBoundsBeginEnd_9 : decode cJ5_checkBoundsBeginEnd 9 = .ok (.return_, 1) := dk_177 (dk_at dksJ5_checkBoundsBeginEnd_0 9 rfl rfl)
abbrev cJ5_length : ByteArray := prog_30_method_6_code
def yJ5_length : MethodName := ⟨RJ5, "length", "([B)I"⟩
def dkwJ5_length_0 : List UInt8 := [42, 190, 4, 122, 172]
abbrev dktJ5_length_0 : List UInt8 := dkwJ5_length_0 ++ []
theorem dksJ5_length_0 : cJ5_length.data.toList.drop 0 = dktJ5_length_0 := by decide +kernel
theorem dJ5_length_0 : decode cJ5_length 0 = .ok (.aload_n 0, 1) := dk_42 (dk_at dksJ5_length_0 0 rfl rfl)
theorem dJ5_length_1 : decode cJ5_length 1 = .ok (.arraylength, 1) := dk_190 (dk_at dksJ5_length_0 1 rfl rfl)
theorem dJ5_length_2 : decode cJ5_length 2 = .ok (.iconst 1, 1) := dk_4 (dk_at dksJ5_length_0 2 rfl rfl)
theorem dJ5_length_3 : decode cJ5_length 3 = .ok (.ishr, 1) := dk_122 (dk_at dksJ5_length_0 3 rfl rfl)
theorem dJ5_length_4 : decode cJ5_length 4 = .ok (.ireturn, 1) := dk_172 (dk_at dksJ5_length_0 4 rfl rfl)
abbrev cJ5_indexOfCharUnsafe : ByteArray := prog_30_method_48_code
def yJ5_indexOfCharUnsafe : MethodName := ⟨RJ5, "indexOfCharUnsafe", "([BIII)I"⟩
def dkwJ5_indexOfCharUnsafe_1 : List UInt8 := [132, 4, 1, 167, 255, 234, 2, 172]
abbrev dktJ5_indexOfCharUnsafe_1 : List UInt8 := dkwJ5_indexOfCharUnsafe_1 ++ []
def dkwJ5_indexOfCharUnsafe_0 : List UInt8 := [28, 54, 4, 21, 4, 29, 162, 0, 22, 42, 21, 4, 184, 0, 71, 27, 160, 0, 6, 21, 4, 172]
abbrev dktJ5_indexOfCharUnsafe_0 : List UInt8 := dkwJ5_indexOfCharUnsafe_0 ++ dktJ5_indexOfCharUnsafe_1
theorem dksJ5_indexOfCharUnsafe_0 : cJ5_indexOfCharUnsafe.data.toList.drop 0 = dktJ5_indexOfCharUnsafe_0 := by decide +kernel
theorem dksJ5_indexOfCharUnsafe_1 : cJ5_indexOfCharUnsafe.data.toList.drop 22 = dktJ5_indexOfCharUnsafe_1 := dk_seg dksJ5_indexOfCharUnsafe_0 22 rfl rfl
theorem dJ5_indexOfCharUnsafe_0 : decode cJ5_indexOfCharUnsafe 0 = .ok (.iload_n 2, 1) := dk_28 (dk_at dksJ5_indexOfCharUnsafe_0 0 rfl rfl)
theorem dJ5_indexOfCharUnsafe_1 : decode cJ5_indexOfCharUnsafe 1 = .ok (.istore 4, 2) := dk_54 4 (dk_at dksJ5_indexOfCharUnsafe_0 1 rfl rfl)
theorem dJ5_indexOfCharUnsafe_3 : decode cJ5_indexOfCharUnsafe 3 = .ok (.iload 4, 2) := dk_21 4 (dk_at dksJ5_indexOfCharUnsafe_0 3 rfl rfl)
theorem dJ5_indexOfCharUnsafe_5 : decode cJ5_indexOfCharUnsafe 5 = .ok (.iload_n 3, 1) := dk_29 (dk_at dksJ5_indexOfCharUnsafe_0 5 rfl rfl)
theorem dJ5_indexOfCharUnsafe_6 : decode cJ5_indexOfCharUnsafe 6 = .ok (.if_icmp .ge 22, 3) := dk_162 0 22 (dk_at dksJ5_indexOfCharUnsafe_0 6 rfl rfl)
theorem dJ5_indexOfCharUnsafe_9 : decode cJ5_indexOfCharUnsafe 9 = .ok (.aload_n 0, 1) := dk_42 (dk_at dksJ5_indexOfCharUnsafe_0 9 rfl rfl)
theorem dJ5_indexOfCharUnsafe_10 : decode cJ5_indexOfCharUnsafe 10 = .ok (.iload 4, 2) := dk_21 4 (dk_at dksJ5_indexOfCharUnsafe_0 10 rfl rfl)
theorem dJ5_indexOfCharUnsafe_12 : decode cJ5_indexOfCharUnsafe 12 = .ok (.invokestatic 71, 3) := dk_184 0 71 (dk_at dksJ5_indexOfCharUnsafe_0 12 rfl rfl)
theorem dJ5_indexOfCharUnsafe_15 : decode cJ5_indexOfCharUnsafe 15 = .ok (.iload_n 1, 1) := dk_27 (dk_at dksJ5_indexOfCharUnsafe_0 15 rfl rfl)
theorem dJ5_indexOfCharUnsafe_16 : decode cJ5_indexOfCharUnsafe 16 = .ok (.if_icmp .ne 6, 3) := dk_160 0 6 (dk_at dksJ5_indexOfCharUnsafe_0 16 rfl rfl)
theorem dJ5_indexOfCharUnsafe_19 : decode cJ5_indexOfCharUnsafe 19 = .ok (.iload 4, 2) := dk_21 4 (dk_at dksJ5_indexOfCharUnsafe_0 19 rfl rfl)
theorem dJ5_indexOfCharUnsafe_21 : decode cJ5_indexOfCharUnsafe 21 = .ok (.ireturn, 1) := dk_172 (dk_at dksJ5_indexOfCharUnsafe_0 21 rfl rfl)
theorem dJ5_indexOfCharUnsafe_22 : decode cJ5_indexOfCharUnsafe 22 = .ok (.iinc 4 1, 3) := dk_132 4 1 (dk_at dksJ5_indexOfCharUnsafe_1 0 rfl rfl)
theorem dJ5_indexOfCharUnsafe_25 : decode cJ5_indexOfCharUnsafe 25 = .ok (.goto (-22), 3) := dk_167 255 234 (dk_at dksJ5_indexOfCharUnsafe_1 3 rfl rfl)
theorem dJ5_indexOfCharUnsafe_28 : decode cJ5_indexOfCharUnsafe 28 = .ok (.iconst (-1), 1) := dk_2 (dk_at dksJ5_indexOfCharUnsafe_1 6 rfl rfl)
theorem dJ5_indexOfCharUnsafe_29 : decode cJ5_indexOfCharUnsafe 29 = .ok (.ireturn, 1) := dk_172 (dk_at dksJ5_indexOfCharUnsafe_1 7 rfl rfl)
abbrev cJ5_getChar : ByteArray := prog_30_method_5_code
def yJ5_getChar : MethodName := ⟨RJ5, "getChar", "([BI)C"⟩
def dkwJ5_getChar_2 : List UInt8 := [51, 17, 0, 255, 126, 178, 0, 63, 120, 128, 146, 172]
abbrev dktJ5_getChar_2 : List UInt8 := dkwJ5_getChar_2 ++ []
def dkwJ5_getChar_1 : List UInt8 := [183, 0, 56, 191, 27, 4, 120, 60, 42, 27, 132, 1, 1, 51, 17, 0, 255, 126, 178, 0, 59, 120, 42, 27]
abbrev dktJ5_getChar_1 : List UInt8 := dkwJ5_getChar_1 ++ dktJ5_getChar_2
def dkwJ5_getChar_0 : List UInt8 := [178, 0, 44, 154, 0, 25, 27, 155, 0, 11, 27, 42, 184, 0, 48, 161, 0, 13, 187, 0, 52, 89, 18, 54]
abbrev dktJ5_getChar_0 : List UInt8 := dkwJ5_getChar_0 ++ dktJ5_getChar_1
theorem dksJ5_getChar_0 : cJ5_getChar.data.toList.drop 0 = dktJ5_getChar_0 := by decide +kernel
theorem dksJ5_getChar_1 : cJ5_getChar.data.toList.drop 24 = dktJ5_getChar_1 := dk_seg dksJ5_getChar_0 24 rfl rfl
theorem dksJ5_getChar_2 : cJ5_getChar.data.toList.drop 48 = dktJ5_getChar_2 := dk_seg dksJ5_getChar_1 24 rfl rfl
theorem dJ5_getChar_0 : decode cJ5_getChar 0 = .ok (.getstatic 44, 3) := dk_178 0 44 (dk_at dksJ5_getChar_0 0 rfl rfl)
theorem dJ5_getChar_3 : decode cJ5_getChar 3 = .ok (.ifCond .ne 25, 3) := dk_154 0 25 (dk_at dksJ5_getChar_0 3 rfl rfl)
theorem dJ5_getChar_6 : decode cJ5_getChar 6 = .ok (.iload_n 1, 1) := dk_27 (dk_at dksJ5_getChar_0 6 rfl rfl)
theorem dJ5_getChar_7 : decode cJ5_getChar 7 = .ok (.ifCond .lt 11, 3) := dk_155 0 11 (dk_at dksJ5_getChar_0 7 rfl rfl)
theorem dJ5_getChar_10 : decode cJ5_getChar 10 = .ok (.iload_n 1, 1) := dk_27 (dk_at dksJ5_getChar_0 10 rfl rfl)
theorem dJ5_getChar_11 : decode cJ5_getChar 11 = .ok (.aload_n 0, 1) := dk_42 (dk_at dksJ5_getChar_0 11 rfl rfl)
theorem dJ5_getChar_12 : decode cJ5_getChar 12 = .ok (.invokestatic 48, 3) := dk_184 0 48 (dk_at dksJ5_getChar_0 12 rfl rfl)
theorem dJ5_getChar_15 : decode cJ5_getChar 15 = .ok (.if_icmp .lt 13, 3) := dk_161 0 13 (dk_at dksJ5_getChar_0 15 rfl rfl)
theorem dJ5_getChar_18 : decode cJ5_getChar 18 = .ok (.new 52, 3) := dk_187 0 52 (dk_at dksJ5_getChar_0 18 rfl rfl)
theorem dJ5_getChar_21 : decode cJ5_getChar 21 = .ok (.dup, 1) := dk_89 (dk_at dksJ5_getChar_0 21 rfl rfl)
theorem dJ5_getChar_22 : decode cJ5_getChar 22 = .ok (.ldc 54, 2) := dk_18 54 (dk_at dksJ5_getChar_0 22 rfl rfl)
theorem dJ5_getChar_24 : decode cJ5_getChar 24 = .ok (.invokespecial 56, 3) := dk_183 0 56 (dk_at dksJ5_getChar_1 0 rfl rfl)
theorem dJ5_getChar_27 : decode cJ5_getChar 27 = .ok (.athrow, 1) := dk_191 (dk_at dksJ5_getChar_1 3 rfl rfl)
theorem dJ5_getChar_28 : decode cJ5_getChar 28 = .ok (.iload_n 1, 1) := dk_27 (dk_at dksJ5_getChar_1 4 rfl rfl)
theorem dJ5_getChar_29 : decode cJ5_getChar 29 = .ok (.iconst 1, 1) := dk_4 (dk_at dksJ5_getChar_1 5 rfl rfl)
theorem dJ5_getChar_30 : decode cJ5_getChar 30 = .ok (.ishl, 1) := dk_120 (dk_at dksJ5_getChar_1 6 rfl rfl)
theorem dJ5_getChar_31 : decode cJ5_getChar 31 = .ok (.istore_n 1, 1) := dk_60 (dk_at dksJ5_getChar_1 7 rfl rfl)
theorem dJ5_getChar_32 : decode cJ5_getChar 32 = .ok (.aload_n 0, 1) := dk_42 (dk_at dksJ5_getChar_1 8 rfl rfl)
theorem dJ5_getChar_33 : decode cJ5_getChar 33 = .ok (.iload_n 1, 1) := dk_27 (dk_at dksJ5_getChar_1 9 rfl rfl)
theorem dJ5_getChar_34 : decode cJ5_getChar 34 = .ok (.iinc 1 1, 3) := dk_132 1 1 (dk_at dksJ5_getChar_1 10 rfl rfl)
theorem dJ5_getChar_37 : decode cJ5_getChar 37 = .ok (.baload, 1) := dk_51 (dk_at dksJ5_getChar_1 13 rfl rfl)
theorem dJ5_getChar_38 : decode cJ5_getChar 38 = .ok (.sipush 255, 3) := dk_17 0 255 (dk_at dksJ5_getChar_1 14 rfl rfl)
theorem dJ5_getChar_41 : decode cJ5_getChar 41 = .ok (.iand, 1) := dk_126 (dk_at dksJ5_getChar_1 17 rfl rfl)
theorem dJ5_getChar_42 : decode cJ5_getChar 42 = .ok (.getstatic 59, 3) := dk_178 0 59 (dk_at dksJ5_getChar_1 18 rfl rfl)
theorem dJ5_getChar_45 : decode cJ5_getChar 45 = .ok (.ishl, 1) := dk_120 (dk_at dksJ5_getChar_1 21 rfl rfl)
theorem dJ5_getChar_46 : decode cJ5_getChar 46 = .ok (.aload_n 0, 1) := dk_42 (dk_at dksJ5_getChar_1 22 rfl rfl)
theorem dJ5_getChar_47 : decode cJ5_getChar 47 = .ok (.iload_n 1, 1) := dk_27 (dk_at dksJ5_getChar_1 23 rfl rfl)
theorem dJ5_getChar_48 : decode cJ5_getChar 48 = .ok (.baload, 1) := dk_51 (dk_at dksJ5_getChar_2 0 rfl rfl)
theorem dJ5_getChar_49 : decode cJ5_getChar 49 = .ok (.sipush 255, 3) := dk_17 0 255 (dk_at dksJ5_getChar_2 1 rfl rfl)
theorem dJ5_getChar_52 : decode cJ5_getChar 52 = .ok (.iand, 1) := dk_126 (dk_at dksJ5_getChar_2 4 rfl rfl)
theorem dJ5_getChar_53 : decode cJ5_getChar 53 = .ok (.getstatic 63, 3) := dk_178 0 63 (dk_at dksJ5_getChar_2 5 rfl rfl)
theorem dJ5_getChar_56 : decode cJ5_getChar 56 = .ok (.ishl, 1) := dk_120 (dk_at dksJ5_getChar_2 8 rfl rfl)
theorem dJ5_getChar_57 : decode cJ5_getChar 57 = .ok (.ior, 1) := dk_128 (dk_at dksJ5_getChar_2 9 rfl rfl)
theorem dJ5_getChar_58 : decode cJ5_getChar 58 = .ok (.i2c, 1) := dk_146 (dk_at dksJ5_getChar_2 10 rfl rfl)
theorem dJ5_getChar_59 : decode cJ5_getChar 59 = .ok (.ireturn, 1) := dk_172 (dk_at dksJ5_getChar_2 11 rfl rfl)
abbrev cJ5_indexOfSupplementary : ByteArray := prog_30_method_49_code
def yJ5_indexOfSupplementary : MethodName := ⟨RJ5, "indexOfSupplementary", "([BIII)I"⟩
def dkwJ5_indexOfSupplementary_3 : List UInt8 := [167, 255, 218, 2, 172]
abbrev dktJ5_indexOfSupplementary_3 : List UInt8 := dkwJ5_indexOfSupplementary_3 ++ []
def dkwJ5_indexOfSupplementary_2 : List UInt8 := [160, 0, 19, 42, 21, 6, 4, 96, 184, 0, 71, 21, 5, 160, 0, 6, 21, 6, 172, 132, 6, 1]
abbrev dktJ5_indexOfSupplementary_2 : List UInt8 := dkwJ5_indexOfSupplementary_2 ++ dktJ5_indexOfSupplementary_3
def dkwJ5_indexOfSupplementary_1 : List UInt8 := [184, 0, 96, 28, 54, 6, 21, 6, 29, 4, 100, 162, 0, 36, 42, 21, 6, 184, 0, 71, 21, 4]
abbrev dktJ5_indexOfSupplementary_1 : List UInt8 := dkwJ5_indexOfSupplementary_1 ++ dktJ5_indexOfSupplementary_2
def dkwJ5_indexOfSupplementary_0 : List UInt8 := [27, 184, 0, 164, 153, 0, 65, 27, 184, 0, 157, 54, 4, 27, 184, 0, 161, 54, 5, 28, 29, 42]
abbrev dktJ5_indexOfSupplementary_0 : List UInt8 := dkwJ5_indexOfSupplementary_0 ++ dktJ5_indexOfSupplementary_1
theorem dksJ5_indexOfSupplementary_0 : cJ5_indexOfSupplementary.data.toList.drop 0 = dktJ5_indexOfSupplementary_0 := by decide +kernel
theorem dksJ5_indexOfSupplementary_1 : cJ5_indexOfSupplementary.data.toList.drop 22 = dktJ5_indexOfSupplementary_1 := dk_seg dksJ5_indexOfSupplementary_0 22 rfl rfl
theorem dksJ5_indexOfSupplementary_2 : cJ5_indexOfSupplementary.data.toList.drop 44 = dktJ5_indexOfSupplementary_2 := dk_seg dksJ5_indexOfSupplementary_1 22 rfl rfl
theorem dksJ5_indexOfSupplementary_3 : cJ5_indexOfSupplementary.data.toList.drop 66 = dktJ5_indexOfSupplementary_3 := dk_seg dksJ5_indexOfSupplementary_2 22 rfl rfl
theorem dJ5_indexOfSupplementary_0 : decode cJ5_indexOfSupplementary 0 = .ok (.iload_n 1, 1) := dk_27 (dk_at dksJ5_indexOfSupplementary_0 0 rfl rfl)
theorem dJ5_indexOfSupplementary_1 : decode cJ5_indexOfSupplementary 1 = .ok (.invokestatic 164, 3) := dk_184 0 164 (dk_at dksJ5_indexOfSupplementary_0 1 rfl rfl)
theorem dJ5_indexOfSupplementary_4 : decode cJ5_indexOfSupplementary 4 = .ok (.ifCond .eq 65, 3) := dk_153 0 65 (dk_at dksJ5_indexOfSupplementary_0 4 rfl rfl)
theorem dJ5_indexOfSupplementary_7 : decode cJ5_indexOfSupplementary 7 = .ok (.iload_n 1, 1) := dk_27 (dk_at dksJ5_indexOfSupplementary_0 7 rfl rfl)
theorem dJ5_indexOfSupplementary_8 : decode cJ5_indexOfSupplementary 8 = .ok (.invokestatic 157, 3) := dk_184 0 157 (dk_at dksJ5_indexOfSupplementary_0 8 rfl rfl)
theorem dJ5_indexOfSupplementary_11 : decode cJ5_indexOfSupplementary 11 = .ok (.istore 4, 2) := dk_54 4 (dk_at dksJ5_indexOfSupplementary_0 11 rfl rfl)
theorem dJ5_indexOfSupplementary_13 : decode cJ5_indexOfSupplementary 13 = .ok (.iload_n 1, 1) := dk_27 (dk_at dksJ5_indexOfSupplementary_0 13 rfl rfl)
theorem dJ5_indexOfSupplementary_14 : decode cJ5_indexOfSupplementary 14 = .ok (.invokestatic 161, 3) := dk_184 0 161 (dk_at dksJ5_indexOfSupplementary_0 14 rfl rfl)
theorem dJ5_indexOfSupplementary_17 : decode cJ5_indexOfSupplementary 17 = .ok (.istore 5, 2) := dk_54 5 (dk_at dksJ5_indexOfSupplementary_0 17 rfl rfl)
theorem dJ5_indexOfSupplementary_19 : decode cJ5_indexOfSupplementary 19 = .ok (.iload_n 2, 1) := dk_28 (dk_at dksJ5_indexOfSupplementary_0 19 rfl rfl)
theorem dJ5_indexOfSupplementary_20 : decode cJ5_indexOfSupplementary 20 = .ok (.iload_n 3, 1) := dk_29 (dk_at dksJ5_indexOfSupplementary_0 20 rfl rfl)
theorem dJ5_indexOfSupplementary_21 : decode cJ5_indexOfSupplementary 21 = .ok (.aload_n 0, 1) := dk_42 (dk_at dksJ5_indexOfSupplementary_0 21 rfl rfl)
theorem dJ5_indexOfSupplementary_22 : decode cJ5_indexOfSupplementary 22 = .ok (.invokestatic 96, 3) := dk_184 0 96 (dk_at dksJ5_indexOfSupplementary_1 0 rfl rfl)
theorem dJ5_indexOfSupplementary_25 : decode cJ5_indexOfSupplementary 25 = .ok (.iload_n 2, 1) := dk_28 (dk_at dksJ5_indexOfSupplementary_1 3 rfl rfl)
theorem dJ5_indexOfSupplementary_26 : decode cJ5_indexOfSupplementary 26 = .ok (.istore 6, 2) := dk_54 6 (dk_at dksJ5_indexOfSupplementary_1 4 rfl rfl)
theorem dJ5_indexOfSupplementary_28 : decode cJ5_indexOfSupplementary 28 = .ok (.iload 6, 2) := dk_21 6 (dk_at dksJ5_indexOfSupplementary_1 6 rfl rfl)
theorem dJ5_indexOfSupplementary_30 : decode cJ5_indexOfSupplementary 30 = .ok (.iload_n 3, 1) := dk_29 (dk_at dksJ5_indexOfSupplementary_1 8 rfl rfl)
theorem dJ5_indexOfSupplementary_31 : decode cJ5_indexOfSupplementary 31 = .ok (.iconst 1, 1) := dk_4 (dk_at dksJ5_indexOfSupplementary_1 9 rfl rfl)
theorem dJ5_indexOfSupplementary_32 : decode cJ5_indexOfSupplementary 32 = .ok (.isub, 1) := dk_100 (dk_at dksJ5_indexOfSupplementary_1 10 rfl rfl)
theorem dJ5_indexOfSupplementary_33 : decode cJ5_indexOfSupplementary 33 = .ok (.if_icmp .ge 36, 3) := dk_162 0 36 (dk_at dksJ5_indexOfSupplementary_1 11 rfl rfl)
theorem dJ5_indexOfSupplementary_36 : decode cJ5_indexOfSupplementary 36 = .ok (.aload_n 0, 1) := dk_42 (dk_at dksJ5_indexOfSupplementary_1 14 rfl rfl)
theorem dJ5_indexOfSupplementary_37 : decode cJ5_indexOfSupplementary 37 = .ok (.iload 6, 2) := dk_21 6 (dk_at dksJ5_indexOfSupplementary_1 15 rfl rfl)
theorem dJ5_indexOfSupplementary_39 : decode cJ5_indexOfSupplementary 39 = .ok (.invokestatic 71, 3) := dk_184 0 71 (dk_at dksJ5_indexOfSupplementary_1 17 rfl rfl)
theorem dJ5_indexOfSupplementary_42 : decode cJ5_indexOfSupplementary 42 = .ok (.iload 4, 2) := dk_21 4 (dk_at dksJ5_indexOfSupplementary_1 20 rfl rfl)
theorem dJ5_indexOfSupplementary_44 : decode cJ5_indexOfSupplementary 44 = .ok (.if_icmp .ne 19, 3) := dk_160 0 19 (dk_at dksJ5_indexOfSupplementary_2 0 rfl rfl)
theorem dJ5_indexOfSupplementary_47 : decode cJ5_indexOfSupplementary 47 = .ok (.aload_n 0, 1) := dk_42 (dk_at dksJ5_indexOfSupplementary_2 3 rfl rfl)
theorem dJ5_indexOfSupplementary_48 : decode cJ5_indexOfSupplementary 48 = .ok (.iload 6, 2) := dk_21 6 (dk_at dksJ5_indexOfSupplementary_2 4 rfl rfl)
theorem dJ5_indexOfSupplementary_50 : decode cJ5_indexOfSupplementary 50 = .ok (.iconst 1, 1) := dk_4 (dk_at dksJ5_indexOfSupplementary_2 6 rfl rfl)
theorem dJ5_indexOfSupplementary_51 : decode cJ5_indexOfSupplementary 51 = .ok (.iadd, 1) := dk_96 (dk_at dksJ5_indexOfSupplementary_2 7 rfl rfl)
theorem dJ5_indexOfSupplementary_52 : decode cJ5_indexOfSupplementary 52 = .ok (.invokestatic 71, 3) := dk_184 0 71 (dk_at dksJ5_indexOfSupplementary_2 8 rfl rfl)
theorem dJ5_indexOfSupplementary_55 : decode cJ5_indexOfSupplementary 55 = .ok (.iload 5, 2) := dk_21 5 (dk_at dksJ5_indexOfSupplementary_2 11 rfl rfl)
theorem dJ5_indexOfSupplementary_57 : decode cJ5_indexOfSupplementary 57 = .ok (.if_icmp .ne 6, 3) := dk_160 0 6 (dk_at dksJ5_indexOfSupplementary_2 13 rfl rfl)
theorem dJ5_indexOfSupplementary_60 : decode cJ5_indexOfSupplementary 60 = .ok (.iload 6, 2) := dk_21 6 (dk_at dksJ5_indexOfSupplementary_2 16 rfl rfl)
theorem dJ5_indexOfSupplementary_62 : decode cJ5_indexOfSupplementary 62 = .ok (.ireturn, 1) := dk_172 (dk_at dksJ5_indexOfSupplementary_2 18 rfl rfl)
theorem dJ5_indexOfSupplementary_63 : decode cJ5_indexOfSupplementary 63 = .ok (.iinc 6 1, 3) := dk_132 6 1 (dk_at dksJ5_indexOfSupplementary_2 19 rfl rfl)
theorem dJ5_indexOfSupplementary_66 : decode cJ5_indexOfSupplementary 66 = .ok (.goto (-38), 3) := dk_167 255 218 (dk_at dksJ5_indexOfSupplementary_3 0 rfl rfl)
theorem dJ5_indexOfSupplementary_69 : decode cJ5_indexOfSupplementary 69 = .ok (.iconst (-1), 1) := dk_2 (dk_at dksJ5_indexOfSupplementary_3 3 rfl rfl)
theorem dJ5_indexOfSupplementary_70 : decode cJ5_indexOfSupplementary 70 = .ok (.ireturn, 1) := dk_172 (dk_at dksJ5_indexOfSupplementary_3 4 rfl rfl)
theorem q90 : (Jvm.Cond.initialized "java/lang/StringUTF16") ∈ lw_all := lw_g (lw_at lw_m1 22 rfl) rfl
theorem q742 : (Jvm.Cond.static ({ cls := "java/lang/StringUTF16", name := "indexOf", desc := "([BIII)I" } : Jvm.MethodName)) ∈ lw_all := lw_g (lw_at lw_m3 194 rfl) rfl
theorem q743 : (Jvm.Cond.code ({ cls := "java/lang/StringUTF16", name := "indexOf", desc := "([BIII)I" } : Jvm.MethodName) prog_30_method_40_code (4 : Nat) (Option.some Jvm.ClassFile.FieldType.int)) ∈ lw_all := lw_g (lw_at lw_m3 195 rfl) rfl
theorem q744 : (Jvm.Cond.methodLink "java/lang/StringUTF16" (224 : Nat) ({ cls := "java/lang/Math", name := "max", desc := "(II)I" } : Jvm.MethodName)) ∈ lw_all := lw_g (lw_at lw_m3 196 rfl) rfl
theorem q745 : (Jvm.Cond.methodLink "java/lang/StringUTF16" (183 : Nat) ({ cls := "java/lang/Math", name := "min", desc := "(II)I" } : Jvm.MethodName)) ∈ lw_all := lw_g (lw_at lw_m3 197 rfl) rfl
theorem q746 : (Jvm.Cond.constant "java/lang/StringUTF16" (227 : Nat) (65536 : Int32)) ∈ lw_all := lw_g (lw_at lw_m3 198 rfl) rfl
theorem q747 : (Jvm.Cond.methodLink "java/lang/StringUTF16" (228 : Nat) ({ cls := "java/lang/StringUTF16", name := "indexOfChar", desc := "([BIII)I" } : Jvm.MethodName)) ∈ lw_all := lw_g (lw_at lw_m3 199 rfl) rfl
theorem q748 : (Jvm.Cond.static ({ cls := "java/lang/StringUTF16", name := "indexOfChar", desc := "([BIII)I" } : Jvm.MethodName)) ∈ lw_all := lw_g (lw_at lw_m3 200 rfl) rfl
theorem q749 : (Jvm.Cond.code ({ cls := "java/lang/StringUTF16", name := "indexOfChar", desc := "([BIII)I" } : Jvm.MethodName) prog_30_method_47_code (4 : Nat) (Option.some Jvm.ClassFile.FieldType.int)) ∈ lw_all := lw_g (lw_at lw_m3 201 rfl) rfl
theorem q750 : (Jvm.Cond.methodLink "java/lang/StringUTF16" (96 : Nat) ({ cls := "java/lang/StringUTF16", name := "checkBoundsBeginEnd", desc := "(II[B)V" } : Jvm.MethodName)) ∈ lw_all := lw_g (lw_at lw_m3 202 rfl) rfl
theorem q751 : (Jvm.Cond.static ({ cls := "java/lang/StringUTF16", name := "checkBoundsBeginEnd", desc := "(II[B)V" } : Jvm.MethodName)) ∈ lw_all := lw_g (lw_at lw_m3 203 rfl) rfl
theorem q752 : (Jvm.Cond.code ({ cls := "java/lang/StringUTF16", name := "checkBoundsBeginEnd", desc := "(II[B)V" } : Jvm.MethodName) prog_30_method_93_code (3 : Nat) (Option.none : Option Jvm.ClassFile.FieldType)) ∈ lw_all := lw_g (lw_at lw_m3 204 rfl) rfl
theorem q753 : (Jvm.Cond.methodLink "java/lang/StringUTF16" (48 : Nat) ({ cls := "java/lang/StringUTF16", name := "length", desc := "([B)I" } : Jvm.MethodName)) ∈ lw_all := lw_g (lw_at lw_m3 205 rfl) rfl
theorem q754 : (Jvm.Cond.static ({ cls := "java/lang/StringUTF16", name := "length", desc := "([B)I" } : Jvm.MethodName)) ∈ lw_all := lw_g (lw_at lw_m3 206 rfl) rfl
theorem q755 : (Jvm.Cond.code ({ cls := "java/lang/StringUTF16", name := "length", desc := "([B)I" } : Jvm.MethodName) prog_30_method_6_code (1 : Nat) (Option.some Jvm.ClassFile.FieldType.int)) ∈ lw_all := lw_g (lw_at lw_m3 207 rfl) rfl
theorem q756 : (Jvm.Cond.methodLink "java/lang/StringUTF16" (241 : Nat) ({ cls := "java/lang/String", name := "checkBoundsBeginEnd", desc := "(III)V" } : Jvm.MethodName)) ∈ lw_all := lw_g (lw_at lw_m3 208 rfl) rfl
theorem q764 : (Jvm.Cond.methodLink "java/lang/StringUTF16" (244 : Nat) ({ cls := "java/lang/StringUTF16", name := "indexOfCharUnsafe", desc := "([BIII)I" } : Jvm.MethodName)) ∈ lw_all := lw_g (lw_at lw_m3 216 rfl) rfl
theorem q765 : (Jvm.Cond.static ({ cls := "java/lang/StringUTF16", name := "indexOfCharUnsafe", desc := "([BIII)I" } : Jvm.MethodName)) ∈ lw_all := lw_g (lw_at lw_m3 217 rfl) rfl
theorem q766 : (Jvm.Cond.code ({ cls := "java/lang/StringUTF16", name := "indexOfCharUnsafe", desc := "([BIII)I" } : Jvm.MethodName) prog_30_method_48_code (5 : Nat) (Option.some Jvm.ClassFile.FieldType.int)) ∈ lw_all := lw_g (lw_at lw_m3 218 rfl) rfl
theorem q767 : (Jvm.Cond.methodLink "java/lang/StringUTF16" (71 : Nat) ({ cls := "java/lang/StringUTF16", name := "getChar", desc := "([BI)C" } : Jvm.MethodName)) ∈ lw_all := lw_g (lw_at lw_m3 219 rfl) rfl
theorem q768 : (Jvm.Cond.static ({ cls := "java/lang/StringUTF16", name := "getChar", desc := "([BI)C" } : Jvm.MethodName)) ∈ lw_all := lw_g (lw_at lw_m3 220 rfl) rfl
theorem q769 : (Jvm.Cond.code ({ cls := "java/lang/StringUTF16", name := "getChar", desc := "([BI)C" } : Jvm.MethodName) prog_30_method_5_code (2 : Nat) (Option.some Jvm.ClassFile.FieldType.char)) ∈ lw_all := lw_g (lw_at lw_m3 221 rfl) rfl
theorem q770 : (Jvm.Cond.fieldLink "java/lang/StringUTF16" (44 : Nat) "java/lang/StringUTF16" "$assertionsDisabled" "Z") ∈ lw_all := lw_g (lw_at lw_m3 222 rfl) rfl
theorem q771 : (Jvm.Cond.laysStatic "java/lang/StringUTF16" "$assertionsDisabled" "Z") ∈ lw_tbl := lw_at lw_m3 223 rfl
theorem q772 : (Jvm.Cond.fieldLink "java/lang/StringUTF16" (59 : Nat) "java/lang/StringUTF16" "HI_BYTE_SHIFT" "I") ∈ lw_all := lw_g (lw_at lw_m3 224 rfl) rfl
theorem q773 : (Jvm.Cond.laysStatic "java/lang/StringUTF16" "HI_BYTE_SHIFT" "I") ∈ lw_tbl := lw_at lw_m3 225 rfl
theorem q774 : (Jvm.Cond.fieldLink "java/lang/StringUTF16" (63 : Nat) "java/lang/StringUTF16" "LO_BYTE_SHIFT" "I") ∈ lw_all := lw_g (lw_at lw_m3 226 rfl) rfl
theorem q775 : (Jvm.Cond.laysStatic "java/lang/StringUTF16" "LO_BYTE_SHIFT" "I") ∈ lw_tbl := lw_at lw_m3 227 rfl
theorem q776 : (Jvm.Cond.methodLink "java/lang/StringUTF16" (232 : Nat) ({ cls := "java/lang/StringUTF16", name := "indexOfSupplementary", desc := "([BIII)I" } : Jvm.MethodName)) ∈ lw_all := lw_g (lw_at lw_m3 228 rfl) rfl
theorem q777 : (Jvm.Cond.static ({ cls := "java/lang/StringUTF16", name := "indexOfSupplementary", desc := "([BIII)I" } : Jvm.MethodName)) ∈ lw_all := lw_g (lw_at lw_m3 229 rfl) rfl
theorem q778 : (Jvm.Cond.code ({ cls := "java/lang/StringUTF16", name := "indexOfSupplementary", desc := "([BIII)I" } : Jvm.MethodName) prog_30_method_49_code (7 : Nat) (Option.some Jvm.ClassFile.FieldType.int)) ∈ lw_all := lw_g (lw_at lw_m3 230 rfl) rfl
theorem q779 : (Jvm.Cond.methodLink "java/lang/StringUTF16" (164 : Nat) ({ cls := "java/lang/Character", name := "isValidCodePoint", desc := "(I)Z" } : Jvm.MethodName)) ∈ lw_all := lw_g (lw_at lw_m3 231 rfl) rfl
theorem q782 : (Jvm.Cond.methodLink "java/lang/StringUTF16" (157 : Nat) ({ cls := "java/lang/Character", name := "highSurrogate", desc := "(I)C" } : Jvm.MethodName)) ∈ lw_all := lw_g (lw_at lw_m3 234 rfl) rfl
theorem q786 : (Jvm.Cond.methodLink "java/lang/StringUTF16" (161 : Nat) ({ cls := "java/lang/Character", name := "lowSurrogate", desc := "(I)C" } : Jvm.MethodName)) ∈ lw_all := lw_g (lw_at lw_m3 238 rfl) rfl
/-! jdk/internal/util/Preconditions -/
def RJ6 : String := "jdk/internal/util/Preconditions"
abbrev cJ6_checkFromToIndex : ByteArray := prog_33_method_12_code
def yJ6_checkFromToIndex : MethodName := ⟨RJ6, "checkFromToIndex", "(IIILjava/util/function/BiFunction;)I"⟩
def dkwJ6_checkFromToIndex_0 : List UInt8 := [26, 155, 0, 13, 26, 27, 163, 0, 8, 27, 28, 164, 0, 11, 45, 26, 27, 28, 184, 0, 99, 191, 26, 172]
abbrev dktJ6_checkFromToIndex_0 : List UInt8 := dkwJ6_checkFromToIndex_0 ++ []
theorem dksJ6_checkFromToIndex_0 : cJ6_checkFromToIndex.data.toList.drop 0 = dktJ6_checkFromToIndex_0 := by decide +kernel
theorem dJ6_checkFromToIndex_0 : decode cJ6_checkFromToIndex 0 = .ok (.iload_n 0, 1) := dk_26 (dk_at dksJ6_checkFromToIndex_0 0 rfl rfl)
theorem dJ6_checkFromToIndex_1 : decode cJ6_checkFromToIndex 1 = .ok (.ifCond .lt 13, 3) := dk_155 0 13 (dk_at dksJ6_checkFromToIndex_0 1 rfl rfl)
theorem dJ6_checkFromToIndex_4 : decode cJ6_checkFromToIndex 4 = .ok (.iload_n 0, 1) := dk_26 (dk_at dksJ6_checkFromToIndex_0 4 rfl rfl)
theorem dJ6_checkFromToIndex_5 : decode cJ6_checkFromToIndex 5 = .ok (.iload_n 1, 1) := dk_27 (dk_at dksJ6_checkFromToIndex_0 5 rfl rfl)
theorem dJ6_checkFromToIndex_6 : decode cJ6_checkFromToIndex 6 = .ok (.if_icmp .gt 8, 3) := dk_163 0 8 (dk_at dksJ6_checkFromToIndex_0 6 rfl rfl)
theorem dJ6_checkFromToIndex_9 : decode cJ6_checkFromToIndex 9 = .ok (.iload_n 1, 1) := dk_27 (dk_at dksJ6_checkFromToIndex_0 9 rfl rfl)
theorem dJ6_checkFromToIndex_10 : decode cJ6_checkFromToIndex 10 = .ok (.iload_n 2, 1) := dk_28 (dk_at dksJ6_checkFromToIndex_0 10 rfl rfl)
theorem dJ6_checkFromToIndex_11 : decode cJ6_checkFromToIndex 11 = .ok (.if_icmp .le 11, 3) := dk_164 0 11 (dk_at dksJ6_checkFromToIndex_0 11 rfl rfl)
theorem dJ6_checkFromToIndex_14 : decode cJ6_checkFromToIndex 14 = .ok (.aload_n 3, 1) := dk_45 (dk_at dksJ6_checkFromToIndex_0 14 rfl rfl)
theorem dJ6_checkFromToIndex_15 : decode cJ6_checkFromToIndex 15 = .ok (.iload_n 0, 1) := dk_26 (dk_at dksJ6_checkFromToIndex_0 15 rfl rfl)
theorem dJ6_checkFromToIndex_16 : decode cJ6_checkFromToIndex 16 = .ok (.iload_n 1, 1) := dk_27 (dk_at dksJ6_checkFromToIndex_0 16 rfl rfl)
theorem dJ6_checkFromToIndex_17 : decode cJ6_checkFromToIndex 17 = .ok (.iload_n 2, 1) := dk_28 (dk_at dksJ6_checkFromToIndex_0 17 rfl rfl)
theorem dJ6_checkFromToIndex_18 : decode cJ6_checkFromToIndex 18 = .ok (.invokestatic 99, 3) := dk_184 0 99 (dk_at dksJ6_checkFromToIndex_0 18 rfl rfl)
theorem dJ6_checkFromToIndex_21 : decode cJ6_checkFromToIndex 21 = .ok (.athrow, 1) := dk_191 (dk_at dksJ6_checkFromToIndex_0 21 rfl rfl)
theorem dJ6_checkFromToIndex_22 : decode cJ6_checkFromToIndex 22 = .ok (.iload_n 0, 1) := dk_26 (dk_at dksJ6_checkFromToIndex_0 22 rfl rfl)
theorem dJ6_checkFromToIndex_23 : decode cJ6_checkFromToIndex 23 = .ok (.ireturn, 1) := dk_172 (dk_at dksJ6_checkFromToIndex_0 23 rfl rfl)
theorem q91 : (Jvm.Cond.initialized "jdk/internal/util/Preconditions") ∈ lw_all := lw_g (lw_at lw_m1 23 rfl) rfl
theorem q760 : (Jvm.Cond.laysStatic "jdk/internal/util/Preconditions" "SIOOBE_FORMATTER" "Ljava/util/function/BiFunction;") ∈ lw_tbl := lw_at lw_m3 212 rfl
theorem q762 : (Jvm.Cond.static ({ cls := "jdk/internal/util/Preconditions", name := "checkFromToIndex", desc := "(IIILjava/util/function/BiFunction;)I" } : Jvm.MethodName)) ∈ lw_all := lw_g (lw_at lw_m3 214 rfl) rfl
theorem q763 : (Jvm.Cond.code ({ cls := "jdk/internal/util/Preconditions", name := "checkFromToIndex", desc := "(IIILjava/util/function/BiFunction;)I" } : Jvm.MethodName) prog_33_method_12_code (4 : Nat) (Option.some Jvm.ClassFile.FieldType.int)) ∈ lw_all := lw_g (lw_at lw_m3 215 rfl) rfl
/-! java/lang/Character -/
def RJ7 : String := "java/lang/Character"
abbrev cJ7_isValidCodePoint : ByteArray := prog_23_method_11_code
def yJ7_isValidCodePoint : MethodName := ⟨RJ7, "isValidCodePoint", "(I)Z"⟩
def dkwJ7_isValidCodePoint_0 : List UInt8 := [26, 16, 16, 124, 60, 27, 16, 17, 162, 0, 7, 4, 167, 0, 4, 3, 172]
abbrev dktJ7_isValidCodePoint_0 : List UInt8 := dkwJ7_isValidCodePoint_0 ++ []
theorem dksJ7_isValidCodePoint_0 : cJ7_isValidCodePoint.data.toList.drop 0 = dktJ7_isValidCodePoint_0 := by decide +kernel
theorem dJ7_isValidCodePoint_0 : decode cJ7_isValidCodePoint 0 = .ok (.iload_n 0, 1) := dk_26 (dk_at dksJ7_isValidCodePoint_0 0 rfl rfl)
theorem dJ7_isValidCodePoint_1 : decode cJ7_isValidCodePoint 1 = .ok (.bipush 16, 2) := dk_16 16 (dk_at dksJ7_isValidCodePoint_0 1 rfl rfl)
theorem dJ7_isValidCodePoint_3 : decode cJ7_isValidCodePoint 3 = .ok (.iushr, 1) := dk_124 (dk_at dksJ7_isValidCodePoint_0 3 rfl rfl)
theorem dJ7_isValidCodePoint_4 : decode cJ7_isValidCodePoint 4 = .ok (.istore_n 1, 1) := dk_60 (dk_at dksJ7_isValidCodePoint_0 4 rfl rfl)
theorem dJ7_isValidCodePoint_5 : decode cJ7_isValidCodePoint 5 = .ok (.iload_n 1, 1) := dk_27 (dk_at dksJ7_isValidCodePoint_0 5 rfl rfl)
theorem dJ7_isValidCodePoint_6 : decode cJ7_isValidCodePoint 6 = .ok (.bipush 17, 2) := dk_16 17 (dk_at dksJ7_isValidCodePoint_0 6 rfl rfl)
theorem dJ7_isValidCodePoint_8 : decode cJ7_isValidCodePoint 8 = .ok (.if_icmp .ge 7, 3) := dk_162 0 7 (dk_at dksJ7_isValidCodePoint_0 8 rfl rfl)
theorem dJ7_isValidCodePoint_11 : decode cJ7_isValidCodePoint 11 = .ok (.iconst 1, 1) := dk_4 (dk_at dksJ7_isValidCodePoint_0 11 rfl rfl)
theorem dJ7_isValidCodePoint_12 : decode cJ7_isValidCodePoint 12 = .ok (.goto 4, 3) := dk_167 0 4 (dk_at dksJ7_isValidCodePoint_0 12 rfl rfl)
theorem dJ7_isValidCodePoint_15 : decode cJ7_isValidCodePoint 15 = .ok (.iconst 0, 1) := dk_3 (dk_at dksJ7_isValidCodePoint_0 15 rfl rfl)
theorem dJ7_isValidCodePoint_16 : decode cJ7_isValidCodePoint 16 = .ok (.ireturn, 1) := dk_172 (dk_at dksJ7_isValidCodePoint_0 16 rfl rfl)
abbrev cJ7_highSurrogate : ByteArray := prog_23_method_28_code
def yJ7_highSurrogate : MethodName := ⟨RJ7, "highSurrogate", "(I)C"⟩
def dkwJ7_highSurrogate_0 : List UInt8 := [26, 16, 10, 124, 18, 110, 96, 146, 172]
abbrev dktJ7_highSurrogate_0 : List UInt8 := dkwJ7_highSurrogate_0 ++ []
theorem dksJ7_highSurrogate_0 : cJ7_highSurrogate.data.toList.drop 0 = dktJ7_highSurrogate_0 := by decide +kernel
theorem dJ7_highSurrogate_0 : decode cJ7_highSurrogate 0 = .ok (.iload_n 0, 1) := dk_26 (dk_at dksJ7_highSurrogate_0 0 rfl rfl)
theorem dJ7_highSurrogate_1 : decode cJ7_highSurrogate 1 = .ok (.bipush 10, 2) := dk_16 10 (dk_at dksJ7_highSurrogate_0 1 rfl rfl)
theorem dJ7_highSurrogate_3 : decode cJ7_highSurrogate 3 = .ok (.iushr, 1) := dk_124 (dk_at dksJ7_highSurrogate_0 3 rfl rfl)
theorem dJ7_highSurrogate_4 : decode cJ7_highSurrogate 4 = .ok (.ldc 110, 2) := dk_18 110 (dk_at dksJ7_highSurrogate_0 4 rfl rfl)
theorem dJ7_highSurrogate_6 : decode cJ7_highSurrogate 6 = .ok (.iadd, 1) := dk_96 (dk_at dksJ7_highSurrogate_0 6 rfl rfl)
theorem dJ7_highSurrogate_7 : decode cJ7_highSurrogate 7 = .ok (.i2c, 1) := dk_146 (dk_at dksJ7_highSurrogate_0 7 rfl rfl)
theorem dJ7_highSurrogate_8 : decode cJ7_highSurrogate 8 = .ok (.ireturn, 1) := dk_172 (dk_at dksJ7_highSurrogate_0 8 rfl rfl)
abbrev cJ7_lowSurrogate : ByteArray := prog_23_method_29_code
def yJ7_lowSurrogate : MethodName := ⟨RJ7, "lowSurrogate", "(I)C"⟩
def dkwJ7_lowSurrogate_0 : List UInt8 := [26, 17, 3, 255, 126, 18, 76, 96, 146, 172]
abbrev dktJ7_lowSurrogate_0 : List UInt8 := dkwJ7_lowSurrogate_0 ++ []
theorem dksJ7_lowSurrogate_0 : cJ7_lowSurrogate.data.toList.drop 0 = dktJ7_lowSurrogate_0 := by decide +kernel
theorem dJ7_lowSurrogate_0 : decode cJ7_lowSurrogate 0 = .ok (.iload_n 0, 1) := dk_26 (dk_at dksJ7_lowSurrogate_0 0 rfl rfl)
theorem dJ7_lowSurrogate_1 : decode cJ7_lowSurrogate 1 = .ok (.sipush 1023, 3) := dk_17 3 255 (dk_at dksJ7_lowSurrogate_0 1 rfl rfl)
theorem dJ7_lowSurrogate_4 : decode cJ7_lowSurrogate 4 = .ok (.iand, 1) := dk_126 (dk_at dksJ7_lowSurrogate_0 4 rfl rfl)
theorem dJ7_lowSurrogate_5 : decode cJ7_lowSurrogate 5 = .ok (.ldc 76, 2) := dk_18 76 (dk_at dksJ7_lowSurrogate_0 5 rfl rfl)
theorem dJ7_lowSurrogate_7 : decode cJ7_lowSurrogate 7 = .ok (.iadd, 1) := dk_96 (dk_at dksJ7_lowSurrogate_0 7 rfl rfl)
theorem dJ7_lowSurrogate_8 : decode cJ7_lowSurrogate 8 = .ok (.i2c, 1) := dk_146 (dk_at dksJ7_lowSurrogate_0 8 rfl rfl)
theorem dJ7_lowSurrogate_9 : decode cJ7_lowSurrogate 9 = .ok (.ireturn, 1) := dk_172 (dk_at dksJ7_lowSurrogate_0 9 rfl rfl)
theorem q92 : (Jvm.Cond.initialized "java/lang/Character") ∈ lw_all := lw_g (lw_at lw_m1 24 rfl) rfl
theorem q780 : (Jvm.Cond.static ({ cls := "java/lang/Character", name := "isValidCodePoint", desc := "(I)Z" } : Jvm.MethodName)) ∈ lw_all := lw_g (lw_at lw_m3 232 rfl) rfl
theorem q781 : (Jvm.Cond.code ({ cls := "java/lang/Character", name := "isValidCodePoint", desc := "(I)Z" } : Jvm.MethodName) prog_23_method_11_code (2 : Nat) (Option.some Jvm.ClassFile.FieldType.boolean)) ∈ lw_all := lw_g (lw_at lw_m3 233 rfl) rfl
theorem q783 : (Jvm.Cond.static ({ cls := "java/lang/Character", name := "highSurrogate", desc := "(I)C" } : Jvm.MethodName)) ∈ lw_all := lw_g (lw_at lw_m3 235 rfl) rfl
theorem q784 : (Jvm.Cond.code ({ cls := "java/lang/Character", name := "highSurrogate", desc := "(I)C" } : Jvm.MethodName) prog_23_method_28_code (1 : Nat) (Option.some Jvm.ClassFile.FieldType.char)) ∈ lw_all := lw_g (lw_at lw_m3 236 rfl) rfl
theorem q785 : (Jvm.Cond.constant "java/lang/Character" (110 : Nat) (55232 : Int32)) ∈ lw_all := lw_g (lw_at lw_m3 237 rfl) rfl
theorem q787 : (Jvm.Cond.static ({ cls := "java/lang/Character", name := "lowSurrogate", desc := "(I)C" } : Jvm.MethodName)) ∈ lw_all := lw_g (lw_at lw_m3 239 rfl) rfl
theorem q788 : (Jvm.Cond.code ({ cls := "java/lang/Character", name := "lowSurrogate", desc := "(I)C" } : Jvm.MethodName) prog_23_method_29_code (1 : Nat) (Option.some Jvm.ClassFile.FieldType.char)) ∈ lw_all := lw_g (lw_at lw_m4 0 rfl) rfl
theorem q789 : (Jvm.Cond.constant "java/lang/Character" (76 : Nat) (56320 : Int32)) ∈ lw_all := lw_g (lw_at lw_m4 1 rfl) rfl
/-! java/lang/RuntimeException -/
def RJ8 : String := "java/lang/RuntimeException"
abbrev cJ8_init : ByteArray := prog_27_method_2_code
def yJ8_init : MethodName := ⟨RJ8, "<init>", "(Ljava/lang/String;)V"⟩
def dkwJ8_init_0 : List UInt8 := [42, 43, 183, 0, 7, 177]
abbrev dktJ8_init_0 : List UInt8 := dkwJ8_init_0 ++ []
theorem dksJ8_init_0 : cJ8_init.data.toList.drop 0 = dktJ8_init_0 := by decide +kernel
theorem dJ8_init_0 : decode cJ8_init 0 = .ok (.aload_n 0, 1) := dk_42 (dk_at dksJ8_init_0 0 rfl rfl)
theorem dJ8_init_1 : decode cJ8_init 1 = .ok (.aload_n 1, 1) := dk_43 (dk_at dksJ8_init_0 1 rfl rfl)
theorem dJ8_init_2 : decode cJ8_init 2 = .ok (.invokespecial 7, 3) := dk_183 0 7 (dk_at dksJ8_init_0 2 rfl rfl)
theorem dJ8_init_5 : decode cJ8_init 5 = .ok (.return_, 1) := dk_177 (dk_at dksJ8_init_0 5 rfl rfl)
theorem q94 : (Jvm.Cond.initialized "java/lang/RuntimeException") ∈ lw_all := lw_g (lw_at lw_m1 26 rfl) rfl
theorem q947 : (Jvm.Cond.instanceMethod ({ cls := "java/lang/RuntimeException", name := "<init>", desc := "(Ljava/lang/String;)V" } : Jvm.MethodName)) ∈ lw_all := lw_g (lw_at lw_m4 159 rfl) rfl
theorem q948 : (Jvm.Cond.code ({ cls := "java/lang/RuntimeException", name := "<init>", desc := "(Ljava/lang/String;)V" } : Jvm.MethodName) prog_27_method_2_code (2 : Nat) (Option.none : Option Jvm.ClassFile.FieldType)) ∈ lw_all := lw_g (lw_at lw_m4 160 rfl) rfl
theorem q949 : (Jvm.Cond.methodLink "java/lang/RuntimeException" (7 : Nat) ({ cls := "java/lang/Exception", name := "<init>", desc := "(Ljava/lang/String;)V" } : Jvm.MethodName)) ∈ lw_all := lw_g (lw_at lw_m4 161 rfl) rfl
theorem q963 : (Jvm.Cond.declares ({ cls := "java/lang/RuntimeException", name := "<init>", desc := "()V" } : Jvm.MethodName)) ∈ lw_tbl := lw_at lw_m4 175 rfl
theorem q964 : (Jvm.Cond.declares ({ cls := "java/lang/RuntimeException", name := "<init>", desc := "(Ljava/lang/String;)V" } : Jvm.MethodName)) ∈ lw_tbl := lw_at lw_m4 176 rfl
/-! java/lang/ArithmeticException -/
def RJ9 : String := "java/lang/ArithmeticException"
def TJ9 : u_T := fun k => match k with
  | 0 => ("java/lang/Throwable", "backtrace", "Ljava/lang/Object;", false)
  | 1 => ("java/lang/Throwable", "detailMessage", "Ljava/lang/String;", false)
  | 2 => ("java/lang/Throwable", "cause", "Ljava/lang/Throwable;", false)
  | 3 => ("java/lang/Throwable", "stackTrace", "[Ljava/lang/StackTraceElement;", false)
  | 4 => ("java/lang/Throwable", "depth", "I", false)
  | _ => ("java/lang/Throwable", "suppressedExceptions", "Ljava/util/List;", false)
def tyJ9 : Nat → FieldType := fun k => match k with
  | 0 => .object "java/lang/Object"
  | 1 => .object "java/lang/String"
  | 2 => .object "java/lang/Throwable"
  | 3 => .array (.object "java/lang/StackTraceElement")
  | 4 => .int
  | _ => .object "java/util/List"
abbrev wsJ90 : List Cond := u_ws RJ9 TJ9 6
theorem nmJ9 : ∀ a, a < 6 → ∀ b, b < 6 → a ≠ b → (TJ9 a).2.1 ≠ (TJ9 b).2.1 := by decide +kernel
theorem tyJ9_ok : ∀ k, k < 6 → parseFieldDescriptor (TJ9 k).2.2.1 = some (tyJ9 k) := by decide +kernel
abbrev cJ9_init : ByteArray := prog_21_method_2_code
def yJ9_init : MethodName := ⟨RJ9, "<init>", "(Ljava/lang/String;)V"⟩
def dkwJ9_init_0 : List UInt8 := [42, 43, 183, 0, 7, 177]
abbrev dktJ9_init_0 : List UInt8 := dkwJ9_init_0 ++ []
theorem dksJ9_init_0 : cJ9_init.data.toList.drop 0 = dktJ9_init_0 := by decide +kernel
theorem dJ9_init_0 : decode cJ9_init 0 = .ok (.aload_n 0, 1) := dk_42 (dk_at dksJ9_init_0 0 rfl rfl)
theorem dJ9_init_1 : decode cJ9_init 1 = .ok (.aload_n 1, 1) := dk_43 (dk_at dksJ9_init_0 1 rfl rfl)
theorem dJ9_init_2 : decode cJ9_init 2 = .ok (.invokespecial 7, 3) := dk_183 0 7 (dk_at dksJ9_init_0 2 rfl rfl)
theorem dJ9_init_5 : decode cJ9_init 5 = .ok (.return_, 1) := dk_177 (dk_at dksJ9_init_0 5 rfl rfl)
theorem q95 : (Jvm.Cond.initialized "java/lang/ArithmeticException") ∈ lw_all := lw_g (lw_at lw_m1 27 rfl) rfl
theorem q661 : (Jvm.Cond.selects "java/lang/ArithmeticException" ({ cls := "java/lang/Throwable", name := "fillInStackTrace", desc := "()Ljava/lang/Throwable;" } : Jvm.MethodName) ({ cls := "java/lang/Throwable", name := "fillInStackTrace", desc := "()Ljava/lang/Throwable;" } : Jvm.MethodName)) ∈ lw_all := lw_g (lw_at lw_m3 113 rfl) rfl
theorem q943 : (Jvm.Cond.instantiable "java/lang/ArithmeticException" (6 : Nat)) ∈ lw_all := lw_g (lw_at lw_m4 155 rfl) rfl
theorem q944 : (Jvm.Cond.instanceMethod ({ cls := "java/lang/ArithmeticException", name := "<init>", desc := "(Ljava/lang/String;)V" } : Jvm.MethodName)) ∈ lw_all := lw_g (lw_at lw_m4 156 rfl) rfl
theorem q945 : (Jvm.Cond.code ({ cls := "java/lang/ArithmeticException", name := "<init>", desc := "(Ljava/lang/String;)V" } : Jvm.MethodName) prog_21_method_2_code (2 : Nat) (Option.none : Option Jvm.ClassFile.FieldType)) ∈ lw_all := lw_g (lw_at lw_m4 157 rfl) rfl
theorem q946 : (Jvm.Cond.methodLink "java/lang/ArithmeticException" (7 : Nat) ({ cls := "java/lang/RuntimeException", name := "<init>", desc := "(Ljava/lang/String;)V" } : Jvm.MethodName)) ∈ lw_all := lw_g (lw_at lw_m4 158 rfl) rfl
theorem q955 : (Jvm.Cond.lays "java/lang/ArithmeticException" "java/lang/Throwable" "backtrace" "Ljava/lang/Object;") ∈ lw_all := lw_g (lw_at lw_m4 167 rfl) rfl
theorem q956 : (Jvm.Cond.lays "java/lang/ArithmeticException" "java/lang/Throwable" "detailMessage" "Ljava/lang/String;") ∈ lw_all := lw_g (lw_at lw_m4 168 rfl) rfl
theorem q957 : (Jvm.Cond.lays "java/lang/ArithmeticException" "java/lang/Throwable" "cause" "Ljava/lang/Throwable;") ∈ lw_all := lw_g (lw_at lw_m4 169 rfl) rfl
theorem q958 : (Jvm.Cond.lays "java/lang/ArithmeticException" "java/lang/Throwable" "stackTrace" "[Ljava/lang/StackTraceElement;") ∈ lw_all := lw_g (lw_at lw_m4 170 rfl) rfl
theorem q959 : (Jvm.Cond.lays "java/lang/ArithmeticException" "java/lang/Throwable" "depth" "I") ∈ lw_all := lw_g (lw_at lw_m4 171 rfl) rfl
theorem q960 : (Jvm.Cond.lays "java/lang/ArithmeticException" "java/lang/Throwable" "suppressedExceptions" "Ljava/util/List;") ∈ lw_all := lw_g (lw_at lw_m4 172 rfl) rfl
theorem q961 : (Jvm.Cond.superclass "java/lang/ArithmeticException" "java/lang/RuntimeException") ∈ lw_all := lw_g (lw_at lw_m4 173 rfl) rfl
theorem q962 : (Jvm.Cond.castable "java/lang/ArithmeticException" "java/lang/ArithmeticException") ∈ lw_tbl := lw_at lw_m4 174 rfl
theorem q965 : (Jvm.Cond.selects "java/lang/ArithmeticException" ({ cls := "java/lang/Throwable", name := "fillInStackTrace", desc := "(I)Ljava/lang/Throwable;" } : Jvm.MethodName) ({ cls := "java/lang/Throwable", name := "fillInStackTrace", desc := "(I)Ljava/lang/Throwable;" } : Jvm.MethodName)) ∈ lw_all := lw_g (lw_at lw_m4 177 rfl) rfl
theorem in_J9 : ∀ w ∈ wsJ90, w ∈ lw_all := lw_in wsJ90 [955, 956, 957, 958, 959, 960] (by decide +kernel) (by decide +kernel)
/-! FigureTill$House -/
def RX1 : String := "FigureTill$House"
def TX1 : u_T := fun k => match k with
  | 0 => ("FigureTill$House", "price", "[I", true)
  | 1 => ("FigureTill$House", "cost", "[I", true)
  | 2 => ("FigureTill$House", "stock", "[I", true)
  | 3 => ("FigureTill$House", "takings", "I", false)
  | 4 => ("FigureTill$House", "costs", "I", false)
  | 5 => ("FigureTill$House", "goes", "I", false)
  | 6 => ("FigureTill$House", "z", "I", false)
  | 7 => ("FigureTill$House", "taped", "I", false)
  | 8 => ("FigureTill$House", "waiting", "I", false)
  | 9 => ("FigureTill$House", "till", "[LFigureTill$Slot;", true)
  | 10 => ("FigureTill$House", "texts", "[LFigureTill$Text;", true)
  | 11 => ("FigureTill$House", "tape", "[B", true)
  | _ => ("FigureTill$House", "waits", "[I", true)
def tyX1 : Nat → FieldType := fun k => match k with
  | 0 => .array .int
  | 1 => .array .int
  | 2 => .array .int
  | 3 => .int
  | 4 => .int
  | 5 => .int
  | 6 => .int
  | 7 => .int
  | 8 => .int
  | 9 => .array (.object "FigureTill$Slot")
  | 10 => .array (.object "FigureTill$Text")
  | 11 => .array .byte
  | _ => .array .int
abbrev wsX10 : List Cond := u_ws RX1 TX1 13
set_option maxRecDepth 100000 in
theorem nmX1 : ∀ a, a < 13 → ∀ b, b < 13 → a ≠ b → (TX1 a).2.1 ≠ (TX1 b).2.1 := by decide +kernel
set_option maxRecDepth 100000 in
theorem tyX1_ok : ∀ k, k < 13 → parseFieldDescriptor (TX1 k).2.2.1 = some (tyX1 k) := by decide +kernel
abbrev cX1_init : ByteArray := prog_7_method_1_code
def yX1_init : MethodName := ⟨RX1, "<init>", "()V"⟩
def dkwX1_init_7 : List UInt8 := [181, 0, 50, 132, 1, 1, 167, 255, 217, 177]
abbrev dktX1_init_7 : List UInt8 := dkwX1_init_7 ++ []
def dkwX1_init_6 : List UInt8 := [27, 187, 0, 25, 89, 183, 0, 44, 83, 42, 180, 0, 27, 27, 50, 187, 0, 45, 89, 27, 3, 183, 0, 47]
abbrev dktX1_init_6 : List UInt8 := dkwX1_init_6 ++ dktX1_init_7
def dkwX1_init_5 : List UInt8 := [180, 0, 18, 27, 16, 9, 79, 132, 1, 1, 167, 255, 239, 3, 60, 27, 7, 162, 0, 40, 42, 180, 0, 27]
abbrev dktX1_init_5 : List UInt8 := dkwX1_init_5 ++ dktX1_init_6
def dkwX1_init_4 : List UInt8 := [188, 8, 181, 0, 37, 42, 16, 24, 188, 10, 181, 0, 41, 3, 60, 27, 16, 8, 162, 0, 17, 42]
abbrev dktX1_init_4 : List UInt8 := dkwX1_init_4 ++ dktX1_init_5
def dkwX1_init_3 : List UInt8 := [4, 181, 0, 21, 42, 7, 189, 0, 25, 181, 0, 27, 42, 5, 189, 0, 31, 181, 0, 33, 42, 16, 60]
abbrev dktX1_init_3 : List UInt8 := dkwX1_init_3 ++ dktX1_init_4
def dkwX1_init_2 : List UInt8 := [17, 3, 231, 79, 181, 0, 9, 42, 16, 8, 188, 10, 181, 0, 15, 42, 16, 8, 188, 10, 181, 0, 18, 42]
abbrev dktX1_init_2 : List UInt8 := dkwX1_init_2 ++ dktX1_init_3
def dkwX1_init_1 : List UInt8 := [6, 16, 20, 79, 89, 7, 16, 99, 79, 89, 8, 16, 100, 79, 89, 16, 6, 17, 0, 250, 79, 89, 16, 7]
abbrev dktX1_init_1 : List UInt8 := dkwX1_init_1 ++ dktX1_init_2
def dkwX1_init_0 : List UInt8 := [42, 183, 0, 3, 42, 16, 8, 188, 10, 89, 3, 4, 79, 89, 4, 16, 9, 79, 89, 5, 16, 19, 79, 89]
abbrev dktX1_init_0 : List UInt8 := dkwX1_init_0 ++ dktX1_init_1
theorem dksX1_init_0 : cX1_init.data.toList.drop 0 = dktX1_init_0 := by decide +kernel
theorem dksX1_init_1 : cX1_init.data.toList.drop 24 = dktX1_init_1 := dk_seg dksX1_init_0 24 rfl rfl
theorem dksX1_init_2 : cX1_init.data.toList.drop 48 = dktX1_init_2 := dk_seg dksX1_init_1 24 rfl rfl
theorem dksX1_init_3 : cX1_init.data.toList.drop 72 = dktX1_init_3 := dk_seg dksX1_init_2 24 rfl rfl
theorem dksX1_init_4 : cX1_init.data.toList.drop 95 = dktX1_init_4 := dk_seg dksX1_init_3 23 rfl rfl
theorem dksX1_init_5 : cX1_init.data.toList.drop 117 = dktX1_init_5 := dk_seg dksX1_init_4 22 rfl rfl
theorem dksX1_init_6 : cX1_init.data.toList.drop 141 = dktX1_init_6 := dk_seg dksX1_init_5 24 rfl rfl
theorem dksX1_init_7 : cX1_init.data.toList.drop 165 = dktX1_init_7 := dk_seg dksX1_init_6 24 rfl rfl
theorem dX1_init_0 : decode cX1_init 0 = .ok (.aload_n 0, 1) := dk_42 (dk_at dksX1_init_0 0 rfl rfl)
theorem dX1_init_1 : decode cX1_init 1 = .ok (.invokespecial 3, 3) := dk_183 0 3 (dk_at dksX1_init_0 1 rfl rfl)
theorem dX1_init_4 : decode cX1_init 4 = .ok (.aload_n 0, 1) := dk_42 (dk_at dksX1_init_0 4 rfl rfl)
theorem dX1_init_5 : decode cX1_init 5 = .ok (.bipush 8, 2) := dk_16 8 (dk_at dksX1_init_0 5 rfl rfl)
theorem dX1_init_7 : decode cX1_init 7 = .ok (.newarray .int, 2) := dk_188_10 (dk_at dksX1_init_0 7 rfl rfl)
theorem dX1_init_9 : decode cX1_init 9 = .ok (.dup, 1) := dk_89 (dk_at dksX1_init_0 9 rfl rfl)
theorem dX1_init_10 : decode cX1_init 10 = .ok (.iconst 0, 1) := dk_3 (dk_at dksX1_init_0 10 rfl rfl)
theorem dX1_init_11 : decode cX1_init 11 = .ok (.iconst 1, 1) := dk_4 (dk_at dksX1_init_0 11 rfl rfl)
theorem dX1_init_12 : decode cX1_init 12 = .ok (.iastore, 1) := dk_79 (dk_at dksX1_init_0 12 rfl rfl)
theorem dX1_init_13 : decode cX1_init 13 = .ok (.dup, 1) := dk_89 (dk_at dksX1_init_0 13 rfl rfl)
theorem dX1_init_14 : decode cX1_init 14 = .ok (.iconst 1, 1) := dk_4 (dk_at dksX1_init_0 14 rfl rfl)
theorem dX1_init_15 : decode cX1_init 15 = .ok (.bipush 9, 2) := dk_16 9 (dk_at dksX1_init_0 15 rfl rfl)
theorem dX1_init_17 : decode cX1_init 17 = .ok (.iastore, 1) := dk_79 (dk_at dksX1_init_0 17 rfl rfl)
theorem dX1_init_18 : decode cX1_init 18 = .ok (.dup, 1) := dk_89 (dk_at dksX1_init_0 18 rfl rfl)
theorem dX1_init_19 : decode cX1_init 19 = .ok (.iconst 2, 1) := dk_5 (dk_at dksX1_init_0 19 rfl rfl)
theorem dX1_init_20 : decode cX1_init 20 = .ok (.bipush 19, 2) := dk_16 19 (dk_at dksX1_init_0 20 rfl rfl)
theorem dX1_init_22 : decode cX1_init 22 = .ok (.iastore, 1) := dk_79 (dk_at dksX1_init_0 22 rfl rfl)
theorem dX1_init_23 : decode cX1_init 23 = .ok (.dup, 1) := dk_89 (dk_at dksX1_init_0 23 rfl rfl)
theorem dX1_init_24 : decode cX1_init 24 = .ok (.iconst 3, 1) := dk_6 (dk_at dksX1_init_1 0 rfl rfl)
theorem dX1_init_25 : decode cX1_init 25 = .ok (.bipush 20, 2) := dk_16 20 (dk_at dksX1_init_1 1 rfl rfl)
theorem dX1_init_27 : decode cX1_init 27 = .ok (.iastore, 1) := dk_79 (dk_at dksX1_init_1 3 rfl rfl)
theorem dX1_init_28 : decode cX1_init 28 = .ok (.dup, 1) := dk_89 (dk_at dksX1_init_1 4 rfl rfl)
theorem dX1_init_29 : decode cX1_init 29 = .ok (.iconst 4, 1) := dk_7 (dk_at dksX1_init_1 5 rfl rfl)
theorem dX1_init_30 : decode cX1_init 30 = .ok (.bipush 99, 2) := dk_16 99 (dk_at dksX1_init_1 6 rfl rfl)
theorem dX1_init_32 : decode cX1_init 32 = .ok (.iastore, 1) := dk_79 (dk_at dksX1_init_1 8 rfl rfl)
theorem dX1_init_33 : decode cX1_init 33 = .ok (.dup, 1) := dk_89 (dk_at dksX1_init_1 9 rfl rfl)
theorem dX1_init_34 : decode cX1_init 34 = .ok (.iconst 5, 1) := dk_8 (dk_at dksX1_init_1 10 rfl rfl)
theorem dX1_init_35 : decode cX1_init 35 = .ok (.bipush 100, 2) := dk_16 100 (dk_at dksX1_init_1 11 rfl rfl)
theorem dX1_init_37 : decode cX1_init 37 = .ok (.iastore, 1) := dk_79 (dk_at dksX1_init_1 13 rfl rfl)
theorem dX1_init_38 : decode cX1_init 38 = .ok (.dup, 1) := dk_89 (dk_at dksX1_init_1 14 rfl rfl)
theorem dX1_init_39 : decode cX1_init 39 = .ok (.bipush 6, 2) := dk_16 6 (dk_at dksX1_init_1 15 rfl rfl)
theorem dX1_init_41 : decode cX1_init 41 = .ok (.sipush 250, 3) := dk_17 0 250 (dk_at dksX1_init_1 17 rfl rfl)
theorem dX1_init_44 : decode cX1_init 44 = .ok (.iastore, 1) := dk_79 (dk_at dksX1_init_1 20 rfl rfl)
theorem dX1_init_45 : decode cX1_init 45 = .ok (.dup, 1) := dk_89 (dk_at dksX1_init_1 21 rfl rfl)
theorem dX1_init_46 : decode cX1_init 46 = .ok (.bipush 7, 2) := dk_16 7 (dk_at dksX1_init_1 22 rfl rfl)
theorem dX1_init_48 : decode cX1_init 48 = .ok (.sipush 999, 3) := dk_17 3 231 (dk_at dksX1_init_2 0 rfl rfl)
theorem dX1_init_51 : decode cX1_init 51 = .ok (.iastore, 1) := dk_79 (dk_at dksX1_init_2 3 rfl rfl)
theorem dX1_init_52 : decode cX1_init 52 = .ok (.putfield 9, 3) := dk_181 0 9 (dk_at dksX1_init_2 4 rfl rfl)
theorem dX1_init_55 : decode cX1_init 55 = .ok (.aload_n 0, 1) := dk_42 (dk_at dksX1_init_2 7 rfl rfl)
theorem dX1_init_56 : decode cX1_init 56 = .ok (.bipush 8, 2) := dk_16 8 (dk_at dksX1_init_2 8 rfl rfl)
theorem dX1_init_58 : decode cX1_init 58 = .ok (.newarray .int, 2) := dk_188_10 (dk_at dksX1_init_2 10 rfl rfl)
theorem dX1_init_60 : decode cX1_init 60 = .ok (.putfield 15, 3) := dk_181 0 15 (dk_at dksX1_init_2 12 rfl rfl)
theorem dX1_init_63 : decode cX1_init 63 = .ok (.aload_n 0, 1) := dk_42 (dk_at dksX1_init_2 15 rfl rfl)
theorem dX1_init_64 : decode cX1_init 64 = .ok (.bipush 8, 2) := dk_16 8 (dk_at dksX1_init_2 16 rfl rfl)
theorem dX1_init_66 : decode cX1_init 66 = .ok (.newarray .int, 2) := dk_188_10 (dk_at dksX1_init_2 18 rfl rfl)
theorem dX1_init_68 : decode cX1_init 68 = .ok (.putfield 18, 3) := dk_181 0 18 (dk_at dksX1_init_2 20 rfl rfl)
theorem dX1_init_71 : decode cX1_init 71 = .ok (.aload_n 0, 1) := dk_42 (dk_at dksX1_init_2 23 rfl rfl)
theorem dX1_init_72 : decode cX1_init 72 = .ok (.iconst 1, 1) := dk_4 (dk_at dksX1_init_3 0 rfl rfl)
theorem dX1_init_73 : decode cX1_init 73 = .ok (.putfield 21, 3) := dk_181 0 21 (dk_at dksX1_init_3 1 rfl rfl)
theorem dX1_init_76 : decode cX1_init 76 = .ok (.aload_n 0, 1) := dk_42 (dk_at dksX1_init_3 4 rfl rfl)
theorem dX1_init_77 : decode cX1_init 77 = .ok (.iconst 4, 1) := dk_7 (dk_at dksX1_init_3 5 rfl rfl)
theorem dX1_init_78 : decode cX1_init 78 = .ok (.anewarray 25, 3) := dk_189 0 25 (dk_at dksX1_init_3 6 rfl rfl)
theorem dX1_init_81 : decode cX1_init 81 = .ok (.putfield 27, 3) := dk_181 0 27 (dk_at dksX1_init_3 9 rfl rfl)
theorem dX1_init_84 : decode cX1_init 84 = .ok (.aload_n 0, 1) := dk_42 (dk_at dksX1_init_3 12 rfl rfl)
theorem dX1_init_85 : decode cX1_init 85 = .ok (.iconst 2, 1) := dk_5 (dk_at dksX1_init_3 13 rfl rfl)
theorem dX1_init_86 : decode cX1_init 86 = .ok (.anewarray 31, 3) := dk_189 0 31 (dk_at dksX1_init_3 14 rfl rfl)
theorem dX1_init_89 : decode cX1_init 89 = .ok (.putfield 33, 3) := dk_181 0 33 (dk_at dksX1_init_3 17 rfl rfl)
theorem dX1_init_92 : decode cX1_init 92 = .ok (.aload_n 0, 1) := dk_42 (dk_at dksX1_init_3 20 rfl rfl)
theorem dX1_init_93 : decode cX1_init 93 = .ok (.bipush 60, 2) := dk_16 60 (dk_at dksX1_init_3 21 rfl rfl)
theorem dX1_init_95 : decode cX1_init 95 = .ok (.newarray .byte, 2) := dk_188_8 (dk_at dksX1_init_4 0 rfl rfl)
theorem dX1_init_97 : decode cX1_init 97 = .ok (.putfield 37, 3) := dk_181 0 37 (dk_at dksX1_init_4 2 rfl rfl)
theorem dX1_init_100 : decode cX1_init 100 = .ok (.aload_n 0, 1) := dk_42 (dk_at dksX1_init_4 5 rfl rfl)
theorem dX1_init_101 : decode cX1_init 101 = .ok (.bipush 24, 2) := dk_16 24 (dk_at dksX1_init_4 6 rfl rfl)
theorem dX1_init_103 : decode cX1_init 103 = .ok (.newarray .int, 2) := dk_188_10 (dk_at dksX1_init_4 8 rfl rfl)
theorem dX1_init_105 : decode cX1_init 105 = .ok (.putfield 41, 3) := dk_181 0 41 (dk_at dksX1_init_4 10 rfl rfl)
theorem dX1_init_108 : decode cX1_init 108 = .ok (.iconst 0, 1) := dk_3 (dk_at dksX1_init_4 13 rfl rfl)
theorem dX1_init_109 : decode cX1_init 109 = .ok (.istore_n 1, 1) := dk_60 (dk_at dksX1_init_4 14 rfl rfl)
theorem dX1_init_110 : decode cX1_init 110 = .ok (.iload_n 1, 1) := dk_27 (dk_at dksX1_init_4 15 rfl rfl)
theorem dX1_init_111 : decode cX1_init 111 = .ok (.bipush 8, 2) := dk_16 8 (dk_at dksX1_init_4 16 rfl rfl)
theorem dX1_init_113 : decode cX1_init 113 = .ok (.if_icmp .ge 17, 3) := dk_162 0 17 (dk_at dksX1_init_4 18 rfl rfl)
theorem dX1_init_116 : decode cX1_init 116 = .ok (.aload_n 0, 1) := dk_42 (dk_at dksX1_init_4 21 rfl rfl)
theorem dX1_init_117 : decode cX1_init 117 = .ok (.getfield 18, 3) := dk_180 0 18 (dk_at dksX1_init_5 0 rfl rfl)
theorem dX1_init_120 : decode cX1_init 120 = .ok (.iload_n 1, 1) := dk_27 (dk_at dksX1_init_5 3 rfl rfl)
theorem dX1_init_121 : decode cX1_init 121 = .ok (.bipush 9, 2) := dk_16 9 (dk_at dksX1_init_5 4 rfl rfl)
theorem dX1_init_123 : decode cX1_init 123 = .ok (.iastore, 1) := dk_79 (dk_at dksX1_init_5 6 rfl rfl)
theorem dX1_init_124 : decode cX1_init 124 = .ok (.iinc 1 1, 3) := dk_132 1 1 (dk_at dksX1_init_5 7 rfl rfl)
theorem dX1_init_127 : decode cX1_init 127 = .ok (.goto (-17), 3) := dk_167 255 239 (dk_at dksX1_init_5 10 rfl rfl)
theorem dX1_init_130 : decode cX1_init 130 = .ok (.iconst 0, 1) := dk_3 (dk_at dksX1_init_5 13 rfl rfl)
theorem dX1_init_131 : decode cX1_init 131 = .ok (.istore_n 1, 1) := dk_60 (dk_at dksX1_init_5 14 rfl rfl)
theorem dX1_init_132 : decode cX1_init 132 = .ok (.iload_n 1, 1) := dk_27 (dk_at dksX1_init_5 15 rfl rfl)
theorem dX1_init_133 : decode cX1_init 133 = .ok (.iconst 4, 1) := dk_7 (dk_at dksX1_init_5 16 rfl rfl)
theorem dX1_init_134 : decode cX1_init 134 = .ok (.if_icmp .ge 40, 3) := dk_162 0 40 (dk_at dksX1_init_5 17 rfl rfl)
theorem dX1_init_137 : decode cX1_init 137 = .ok (.aload_n 0, 1) := dk_42 (dk_at dksX1_init_5 20 rfl rfl)
theorem dX1_init_138 : decode cX1_init 138 = .ok (.getfield 27, 3) := dk_180 0 27 (dk_at dksX1_init_5 21 rfl rfl)
theorem dX1_init_141 : decode cX1_init 141 = .ok (.iload_n 1, 1) := dk_27 (dk_at dksX1_init_6 0 rfl rfl)
theorem dX1_init_142 : decode cX1_init 142 = .ok (.new 25, 3) := dk_187 0 25 (dk_at dksX1_init_6 1 rfl rfl)
theorem dX1_init_145 : decode cX1_init 145 = .ok (.dup, 1) := dk_89 (dk_at dksX1_init_6 4 rfl rfl)
theorem dX1_init_146 : decode cX1_init 146 = .ok (.invokespecial 44, 3) := dk_183 0 44 (dk_at dksX1_init_6 5 rfl rfl)
theorem dX1_init_149 : decode cX1_init 149 = .ok (.aastore, 1) := dk_83 (dk_at dksX1_init_6 8 rfl rfl)
theorem dX1_init_150 : decode cX1_init 150 = .ok (.aload_n 0, 1) := dk_42 (dk_at dksX1_init_6 9 rfl rfl)
theorem dX1_init_151 : decode cX1_init 151 = .ok (.getfield 27, 3) := dk_180 0 27 (dk_at dksX1_init_6 10 rfl rfl)
theorem dX1_init_154 : decode cX1_init 154 = .ok (.iload_n 1, 1) := dk_27 (dk_at dksX1_init_6 13 rfl rfl)
theorem dX1_init_155 : decode cX1_init 155 = .ok (.aaload, 1) := dk_50 (dk_at dksX1_init_6 14 rfl rfl)
theorem dX1_init_156 : decode cX1_init 156 = .ok (.new 45, 3) := dk_187 0 45 (dk_at dksX1_init_6 15 rfl rfl)
theorem dX1_init_159 : decode cX1_init 159 = .ok (.dup, 1) := dk_89 (dk_at dksX1_init_6 18 rfl rfl)
theorem dX1_init_160 : decode cX1_init 160 = .ok (.iload_n 1, 1) := dk_27 (dk_at dksX1_init_6 19 rfl rfl)
theorem dX1_init_161 : decode cX1_init 161 = .ok (.iconst 0, 1) := dk_3 (dk_at dksX1_init_6 20 rfl rfl)
theorem dX1_init_162 : decode cX1_init 162 = .ok (.invokespecial 47, 3) := dk_183 0 47 (dk_at dksX1_init_6 21 rfl rfl)
theorem dX1_init_165 : decode cX1_init 165 = .ok (.putfield 50, 3) := dk_181 0 50 (dk_at dksX1_init_7 0 rfl rfl)
theorem dX1_init_168 : decode cX1_init 168 = .ok (.iinc 1 1, 3) := dk_132 1 1 (dk_at dksX1_init_7 3 rfl rfl)
theorem dX1_init_171 : decode cX1_init 171 = .ok (.goto (-39), 3) := dk_167 255 217 (dk_at dksX1_init_7 6 rfl rfl)
theorem dX1_init_174 : decode cX1_init 174 = .ok (.return_, 1) := dk_177 (dk_at dksX1_init_7 9 rfl rfl)
abbrev cX1_at : ByteArray := prog_7_method_3_code
def yX1_at : MethodName := ⟨RX1, "at", "(I)LFigureTill$Till;"⟩
def dkwX1_at_0 : List UInt8 := [42, 180, 0, 27, 27, 50, 180, 0, 50, 192, 0, 45, 176]
abbrev dktX1_at_0 : List UInt8 := dkwX1_at_0 ++ []
theorem dksX1_at_0 : cX1_at.data.toList.drop 0 = dktX1_at_0 := by decide +kernel
theorem dX1_at_0 : decode cX1_at 0 = .ok (.aload_n 0, 1) := dk_42 (dk_at dksX1_at_0 0 rfl rfl)
theorem dX1_at_1 : decode cX1_at 1 = .ok (.getfield 27, 3) := dk_180 0 27 (dk_at dksX1_at_0 1 rfl rfl)
theorem dX1_at_4 : decode cX1_at 4 = .ok (.iload_n 1, 1) := dk_27 (dk_at dksX1_at_0 4 rfl rfl)
theorem dX1_at_5 : decode cX1_at 5 = .ok (.aaload, 1) := dk_50 (dk_at dksX1_at_0 5 rfl rfl)
theorem dX1_at_6 : decode cX1_at 6 = .ok (.getfield 50, 3) := dk_180 0 50 (dk_at dksX1_at_0 6 rfl rfl)
theorem dX1_at_9 : decode cX1_at 9 = .ok (.checkcast 45, 3) := dk_192 0 45 (dk_at dksX1_at_0 9 rfl rfl)
theorem dX1_at_12 : decode cX1_at 12 = .ok (.areturn, 1) := dk_176 (dk_at dksX1_at_0 12 rfl rfl)
abbrev cX1_drawn : ByteArray := prog_7_method_4_code
def yX1_drawn : MethodName := ⟨RX1, "drawn", "()I"⟩
def dkwX1_drawn_0 : List UInt8 := [42, 42, 180, 0, 21, 18, 75, 104, 17, 48, 57, 96, 181, 0, 21, 42, 180, 0, 21, 16, 8, 124, 172]
abbrev dktX1_drawn_0 : List UInt8 := dkwX1_drawn_0 ++ []
theorem dksX1_drawn_0 : cX1_drawn.data.toList.drop 0 = dktX1_drawn_0 := by decide +kernel
theorem dX1_drawn_0 : decode cX1_drawn 0 = .ok (.aload_n 0, 1) := dk_42 (dk_at dksX1_drawn_0 0 rfl rfl)
theorem dX1_drawn_1 : decode cX1_drawn 1 = .ok (.aload_n 0, 1) := dk_42 (dk_at dksX1_drawn_0 1 rfl rfl)
theorem dX1_drawn_2 : decode cX1_drawn 2 = .ok (.getfield 21, 3) := dk_180 0 21 (dk_at dksX1_drawn_0 2 rfl rfl)
theorem dX1_drawn_5 : decode cX1_drawn 5 = .ok (.ldc 75, 2) := dk_18 75 (dk_at dksX1_drawn_0 5 rfl rfl)
theorem dX1_drawn_7 : decode cX1_drawn 7 = .ok (.imul, 1) := dk_104 (dk_at dksX1_drawn_0 7 rfl rfl)
theorem dX1_drawn_8 : decode cX1_drawn 8 = .ok (.sipush 12345, 3) := dk_17 48 57 (dk_at dksX1_drawn_0 8 rfl rfl)
theorem dX1_drawn_11 : decode cX1_drawn 11 = .ok (.iadd, 1) := dk_96 (dk_at dksX1_drawn_0 11 rfl rfl)
theorem dX1_drawn_12 : decode cX1_drawn 12 = .ok (.putfield 21, 3) := dk_181 0 21 (dk_at dksX1_drawn_0 12 rfl rfl)
theorem dX1_drawn_15 : decode cX1_drawn 15 = .ok (.aload_n 0, 1) := dk_42 (dk_at dksX1_drawn_0 15 rfl rfl)
theorem dX1_drawn_16 : decode cX1_drawn 16 = .ok (.getfield 21, 3) := dk_180 0 21 (dk_at dksX1_drawn_0 16 rfl rfl)
theorem dX1_drawn_19 : decode cX1_drawn 19 = .ok (.bipush 8, 2) := dk_16 8 (dk_at dksX1_drawn_0 19 rfl rfl)
theorem dX1_drawn_21 : decode cX1_drawn 21 = .ok (.iushr, 1) := dk_124 (dk_at dksX1_drawn_0 21 rfl rfl)
theorem dX1_drawn_22 : decode cX1_drawn 22 = .ok (.ireturn, 1) := dk_172 (dk_at dksX1_drawn_0 22 rfl rfl)
abbrev cX1_become : ByteArray := prog_7_method_2_code
def yX1_become : MethodName := ⟨RX1, "become", "(LFigureTill$House;)V"⟩
def dkwX1_become_7 : List UInt8 := [184, 0, 54, 177]
abbrev dktX1_become_7 : List UInt8 := dkwX1_become_7 ++ []
def dkwX1_become_6 : List UInt8 := [3, 42, 180, 0, 37, 3, 16, 60, 184, 0, 54, 43, 180, 0, 41, 3, 42, 180, 0, 41, 3, 16, 24]
abbrev dktX1_become_6 : List UInt8 := dkwX1_become_6 ++ dktX1_become_7
def dkwX1_become_5 : List UInt8 := [132, 2, 1, 167, 255, 230, 43, 180, 0, 33, 3, 42, 180, 0, 33, 3, 5, 184, 0, 54, 43, 180, 0, 37]
abbrev dktX1_become_5 : List UInt8 := dkwX1_become_5 ++ dktX1_become_6
def dkwX1_become_4 : List UInt8 := [28, 7, 162, 0, 27, 42, 180, 0, 27, 28, 50, 43, 180, 0, 27, 28, 50, 180, 0, 50, 181, 0, 50]
abbrev dktX1_become_4 : List UInt8 := dkwX1_become_4 ++ dktX1_become_5
def dkwX1_become_3 : List UInt8 := [180, 0, 21, 181, 0, 21, 42, 43, 180, 0, 69, 181, 0, 69, 42, 43, 180, 0, 72, 181, 0, 72, 3, 61]
abbrev dktX1_become_3 : List UInt8 := dkwX1_become_3 ++ dktX1_become_4
def dkwX1_become_2 : List UInt8 := [180, 0, 60, 181, 0, 60, 42, 43, 180, 0, 63, 181, 0, 63, 42, 43, 180, 0, 66, 181, 0, 66, 42, 43]
abbrev dktX1_become_2 : List UInt8 := dkwX1_become_2 ++ dktX1_become_3
def dkwX1_become_1 : List UInt8 := [3, 16, 8, 184, 0, 54, 43, 180, 0, 18, 3, 42, 180, 0, 18, 3, 16, 8, 184, 0, 54, 42, 43]
abbrev dktX1_become_1 : List UInt8 := dkwX1_become_1 ++ dktX1_become_2
def dkwX1_become_0 : List UInt8 := [43, 180, 0, 9, 3, 42, 180, 0, 9, 3, 16, 8, 184, 0, 54, 43, 180, 0, 15, 3, 42, 180, 0, 15]
abbrev dktX1_become_0 : List UInt8 := dkwX1_become_0 ++ dktX1_become_1
theorem dksX1_become_0 : cX1_become.data.toList.drop 0 = dktX1_become_0 := by decide +kernel
theorem dksX1_become_1 : cX1_become.data.toList.drop 24 = dktX1_become_1 := dk_seg dksX1_become_0 24 rfl rfl
theorem dksX1_become_2 : cX1_become.data.toList.drop 47 = dktX1_become_2 := dk_seg dksX1_become_1 23 rfl rfl
theorem dksX1_become_3 : cX1_become.data.toList.drop 71 = dktX1_become_3 := dk_seg dksX1_become_2 24 rfl rfl
theorem dksX1_become_4 : cX1_become.data.toList.drop 95 = dktX1_become_4 := dk_seg dksX1_become_3 24 rfl rfl
theorem dksX1_become_5 : cX1_become.data.toList.drop 118 = dktX1_become_5 := dk_seg dksX1_become_4 23 rfl rfl
theorem dksX1_become_6 : cX1_become.data.toList.drop 142 = dktX1_become_6 := dk_seg dksX1_become_5 24 rfl rfl
theorem dksX1_become_7 : cX1_become.data.toList.drop 165 = dktX1_become_7 := dk_seg dksX1_become_6 23 rfl rfl
theorem dX1_become_0 : decode cX1_become 0 = .ok (.aload_n 1, 1) := dk_43 (dk_at dksX1_become_0 0 rfl rfl)
theorem dX1_become_1 : decode cX1_become 1 = .ok (.getfield 9, 3) := dk_180 0 9 (dk_at dksX1_become_0 1 rfl rfl)
theorem dX1_become_4 : decode cX1_become 4 = .ok (.iconst 0, 1) := dk_3 (dk_at dksX1_become_0 4 rfl rfl)
theorem dX1_become_5 : decode cX1_become 5 = .ok (.aload_n 0, 1) := dk_42 (dk_at dksX1_become_0 5 rfl rfl)
theorem dX1_become_6 : decode cX1_become 6 = .ok (.getfield 9, 3) := dk_180 0 9 (dk_at dksX1_become_0 6 rfl rfl)
theorem dX1_become_9 : decode cX1_become 9 = .ok (.iconst 0, 1) := dk_3 (dk_at dksX1_become_0 9 rfl rfl)
theorem dX1_become_10 : decode cX1_become 10 = .ok (.bipush 8, 2) := dk_16 8 (dk_at dksX1_become_0 10 rfl rfl)
theorem dX1_become_12 : decode cX1_become 12 = .ok (.invokestatic 54, 3) := dk_184 0 54 (dk_at dksX1_become_0 12 rfl rfl)
theorem dX1_become_15 : decode cX1_become 15 = .ok (.aload_n 1, 1) := dk_43 (dk_at dksX1_become_0 15 rfl rfl)
theorem dX1_become_16 : decode cX1_become 16 = .ok (.getfield 15, 3) := dk_180 0 15 (dk_at dksX1_become_0 16 rfl rfl)
theorem dX1_become_19 : decode cX1_become 19 = .ok (.iconst 0, 1) := dk_3 (dk_at dksX1_become_0 19 rfl rfl)
theorem dX1_become_20 : decode cX1_become 20 = .ok (.aload_n 0, 1) := dk_42 (dk_at dksX1_become_0 20 rfl rfl)
theorem dX1_become_21 : decode cX1_become 21 = .ok (.getfield 15, 3) := dk_180 0 15 (dk_at dksX1_become_0 21 rfl rfl)
theorem dX1_become_24 : decode cX1_become 24 = .ok (.iconst 0, 1) := dk_3 (dk_at dksX1_become_1 0 rfl rfl)
theorem dX1_become_25 : decode cX1_become 25 = .ok (.bipush 8, 2) := dk_16 8 (dk_at dksX1_become_1 1 rfl rfl)
theorem dX1_become_27 : decode cX1_become 27 = .ok (.invokestatic 54, 3) := dk_184 0 54 (dk_at dksX1_become_1 3 rfl rfl)
theorem dX1_become_30 : decode cX1_become 30 = .ok (.aload_n 1, 1) := dk_43 (dk_at dksX1_become_1 6 rfl rfl)
theorem dX1_become_31 : decode cX1_become 31 = .ok (.getfield 18, 3) := dk_180 0 18 (dk_at dksX1_become_1 7 rfl rfl)
theorem dX1_become_34 : decode cX1_become 34 = .ok (.iconst 0, 1) := dk_3 (dk_at dksX1_become_1 10 rfl rfl)
theorem dX1_become_35 : decode cX1_become 35 = .ok (.aload_n 0, 1) := dk_42 (dk_at dksX1_become_1 11 rfl rfl)
theorem dX1_become_36 : decode cX1_become 36 = .ok (.getfield 18, 3) := dk_180 0 18 (dk_at dksX1_become_1 12 rfl rfl)
theorem dX1_become_39 : decode cX1_become 39 = .ok (.iconst 0, 1) := dk_3 (dk_at dksX1_become_1 15 rfl rfl)
theorem dX1_become_40 : decode cX1_become 40 = .ok (.bipush 8, 2) := dk_16 8 (dk_at dksX1_become_1 16 rfl rfl)
theorem dX1_become_42 : decode cX1_become 42 = .ok (.invokestatic 54, 3) := dk_184 0 54 (dk_at dksX1_become_1 18 rfl rfl)
theorem dX1_become_45 : decode cX1_become 45 = .ok (.aload_n 0, 1) := dk_42 (dk_at dksX1_become_1 21 rfl rfl)
theorem dX1_become_46 : decode cX1_become 46 = .ok (.aload_n 1, 1) := dk_43 (dk_at dksX1_become_1 22 rfl rfl)
theorem dX1_become_47 : decode cX1_become 47 = .ok (.getfield 60, 3) := dk_180 0 60 (dk_at dksX1_become_2 0 rfl rfl)
theorem dX1_become_50 : decode cX1_become 50 = .ok (.putfield 60, 3) := dk_181 0 60 (dk_at dksX1_become_2 3 rfl rfl)
theorem dX1_become_53 : decode cX1_become 53 = .ok (.aload_n 0, 1) := dk_42 (dk_at dksX1_become_2 6 rfl rfl)
theorem dX1_become_54 : decode cX1_become 54 = .ok (.aload_n 1, 1) := dk_43 (dk_at dksX1_become_2 7 rfl rfl)
theorem dX1_become_55 : decode cX1_become 55 = .ok (.getfield 63, 3) := dk_180 0 63 (dk_at dksX1_become_2 8 rfl rfl)
theorem dX1_become_58 : decode cX1_become 58 = .ok (.putfield 63, 3) := dk_181 0 63 (dk_at dksX1_become_2 11 rfl rfl)
theorem dX1_become_61 : decode cX1_become 61 = .ok (.aload_n 0, 1) := dk_42 (dk_at dksX1_become_2 14 rfl rfl)
theorem dX1_become_62 : decode cX1_become 62 = .ok (.aload_n 1, 1) := dk_43 (dk_at dksX1_become_2 15 rfl rfl)
theorem dX1_become_63 : decode cX1_become 63 = .ok (.getfield 66, 3) := dk_180 0 66 (dk_at dksX1_become_2 16 rfl rfl)
theorem dX1_become_66 : decode cX1_become 66 = .ok (.putfield 66, 3) := dk_181 0 66 (dk_at dksX1_become_2 19 rfl rfl)
theorem dX1_become_69 : decode cX1_become 69 = .ok (.aload_n 0, 1) := dk_42 (dk_at dksX1_become_2 22 rfl rfl)
theorem dX1_become_70 : decode cX1_become 70 = .ok (.aload_n 1, 1) := dk_43 (dk_at dksX1_become_2 23 rfl rfl)
theorem dX1_become_71 : decode cX1_become 71 = .ok (.getfield 21, 3) := dk_180 0 21 (dk_at dksX1_become_3 0 rfl rfl)
theorem dX1_become_74 : decode cX1_become 74 = .ok (.putfield 21, 3) := dk_181 0 21 (dk_at dksX1_become_3 3 rfl rfl)
theorem dX1_become_77 : decode cX1_become 77 = .ok (.aload_n 0, 1) := dk_42 (dk_at dksX1_become_3 6 rfl rfl)
theorem dX1_become_78 : decode cX1_become 78 = .ok (.aload_n 1, 1) := dk_43 (dk_at dksX1_become_3 7 rfl rfl)
theorem dX1_become_79 : decode cX1_become 79 = .ok (.getfield 69, 3) := dk_180 0 69 (dk_at dksX1_become_3 8 rfl rfl)
theorem dX1_become_82 : decode cX1_become 82 = .ok (.putfield 69, 3) := dk_181 0 69 (dk_at dksX1_become_3 11 rfl rfl)
theorem dX1_become_85 : decode cX1_become 85 = .ok (.aload_n 0, 1) := dk_42 (dk_at dksX1_become_3 14 rfl rfl)
theorem dX1_become_86 : decode cX1_become 86 = .ok (.aload_n 1, 1) := dk_43 (dk_at dksX1_become_3 15 rfl rfl)
theorem dX1_become_87 : decode cX1_become 87 = .ok (.getfield 72, 3) := dk_180 0 72 (dk_at dksX1_become_3 16 rfl rfl)
theorem dX1_become_90 : decode cX1_become 90 = .ok (.putfield 72, 3) := dk_181 0 72 (dk_at dksX1_become_3 19 rfl rfl)
theorem dX1_become_93 : decode cX1_become 93 = .ok (.iconst 0, 1) := dk_3 (dk_at dksX1_become_3 22 rfl rfl)
theorem dX1_become_94 : decode cX1_become 94 = .ok (.istore_n 2, 1) := dk_61 (dk_at dksX1_become_3 23 rfl rfl)
theorem dX1_become_95 : decode cX1_become 95 = .ok (.iload_n 2, 1) := dk_28 (dk_at dksX1_become_4 0 rfl rfl)
theorem dX1_become_96 : decode cX1_become 96 = .ok (.iconst 4, 1) := dk_7 (dk_at dksX1_become_4 1 rfl rfl)
theorem dX1_become_97 : decode cX1_become 97 = .ok (.if_icmp .ge 27, 3) := dk_162 0 27 (dk_at dksX1_become_4 2 rfl rfl)
theorem dX1_become_100 : decode cX1_become 100 = .ok (.aload_n 0, 1) := dk_42 (dk_at dksX1_become_4 5 rfl rfl)
theorem dX1_become_101 : decode cX1_become 101 = .ok (.getfield 27, 3) := dk_180 0 27 (dk_at dksX1_become_4 6 rfl rfl)
theorem dX1_become_104 : decode cX1_become 104 = .ok (.iload_n 2, 1) := dk_28 (dk_at dksX1_become_4 9 rfl rfl)
theorem dX1_become_105 : decode cX1_become 105 = .ok (.aaload, 1) := dk_50 (dk_at dksX1_become_4 10 rfl rfl)
theorem dX1_become_106 : decode cX1_become 106 = .ok (.aload_n 1, 1) := dk_43 (dk_at dksX1_become_4 11 rfl rfl)
theorem dX1_become_107 : decode cX1_become 107 = .ok (.getfield 27, 3) := dk_180 0 27 (dk_at dksX1_become_4 12 rfl rfl)
theorem dX1_become_110 : decode cX1_become 110 = .ok (.iload_n 2, 1) := dk_28 (dk_at dksX1_become_4 15 rfl rfl)
theorem dX1_become_111 : decode cX1_become 111 = .ok (.aaload, 1) := dk_50 (dk_at dksX1_become_4 16 rfl rfl)
theorem dX1_become_112 : decode cX1_become 112 = .ok (.getfield 50, 3) := dk_180 0 50 (dk_at dksX1_become_4 17 rfl rfl)
theorem dX1_become_115 : decode cX1_become 115 = .ok (.putfield 50, 3) := dk_181 0 50 (dk_at dksX1_become_4 20 rfl rfl)
theorem dX1_become_118 : decode cX1_become 118 = .ok (.iinc 2 1, 3) := dk_132 2 1 (dk_at dksX1_become_5 0 rfl rfl)
theorem dX1_become_121 : decode cX1_become 121 = .ok (.goto (-26), 3) := dk_167 255 230 (dk_at dksX1_become_5 3 rfl rfl)
theorem dX1_become_124 : decode cX1_become 124 = .ok (.aload_n 1, 1) := dk_43 (dk_at dksX1_become_5 6 rfl rfl)
theorem dX1_become_125 : decode cX1_become 125 = .ok (.getfield 33, 3) := dk_180 0 33 (dk_at dksX1_become_5 7 rfl rfl)
theorem dX1_become_128 : decode cX1_become 128 = .ok (.iconst 0, 1) := dk_3 (dk_at dksX1_become_5 10 rfl rfl)
theorem dX1_become_129 : decode cX1_become 129 = .ok (.aload_n 0, 1) := dk_42 (dk_at dksX1_become_5 11 rfl rfl)
theorem dX1_become_130 : decode cX1_become 130 = .ok (.getfield 33, 3) := dk_180 0 33 (dk_at dksX1_become_5 12 rfl rfl)
theorem dX1_become_133 : decode cX1_become 133 = .ok (.iconst 0, 1) := dk_3 (dk_at dksX1_become_5 15 rfl rfl)
theorem dX1_become_134 : decode cX1_become 134 = .ok (.iconst 2, 1) := dk_5 (dk_at dksX1_become_5 16 rfl rfl)
theorem dX1_become_135 : decode cX1_become 135 = .ok (.invokestatic 54, 3) := dk_184 0 54 (dk_at dksX1_become_5 17 rfl rfl)
theorem dX1_become_138 : decode cX1_become 138 = .ok (.aload_n 1, 1) := dk_43 (dk_at dksX1_become_5 20 rfl rfl)
theorem dX1_become_139 : decode cX1_become 139 = .ok (.getfield 37, 3) := dk_180 0 37 (dk_at dksX1_become_5 21 rfl rfl)
theorem dX1_become_142 : decode cX1_become 142 = .ok (.iconst 0, 1) := dk_3 (dk_at dksX1_become_6 0 rfl rfl)
theorem dX1_become_143 : decode cX1_become 143 = .ok (.aload_n 0, 1) := dk_42 (dk_at dksX1_become_6 1 rfl rfl)
theorem dX1_become_144 : decode cX1_become 144 = .ok (.getfield 37, 3) := dk_180 0 37 (dk_at dksX1_become_6 2 rfl rfl)
theorem dX1_become_147 : decode cX1_become 147 = .ok (.iconst 0, 1) := dk_3 (dk_at dksX1_become_6 5 rfl rfl)
theorem dX1_become_148 : decode cX1_become 148 = .ok (.bipush 60, 2) := dk_16 60 (dk_at dksX1_become_6 6 rfl rfl)
theorem dX1_become_150 : decode cX1_become 150 = .ok (.invokestatic 54, 3) := dk_184 0 54 (dk_at dksX1_become_6 8 rfl rfl)
theorem dX1_become_153 : decode cX1_become 153 = .ok (.aload_n 1, 1) := dk_43 (dk_at dksX1_become_6 11 rfl rfl)
theorem dX1_become_154 : decode cX1_become 154 = .ok (.getfield 41, 3) := dk_180 0 41 (dk_at dksX1_become_6 12 rfl rfl)
theorem dX1_become_157 : decode cX1_become 157 = .ok (.iconst 0, 1) := dk_3 (dk_at dksX1_become_6 15 rfl rfl)
theorem dX1_become_158 : decode cX1_become 158 = .ok (.aload_n 0, 1) := dk_42 (dk_at dksX1_become_6 16 rfl rfl)
theorem dX1_become_159 : decode cX1_become 159 = .ok (.getfield 41, 3) := dk_180 0 41 (dk_at dksX1_become_6 17 rfl rfl)
theorem dX1_become_162 : decode cX1_become 162 = .ok (.iconst 0, 1) := dk_3 (dk_at dksX1_become_6 20 rfl rfl)
theorem dX1_become_163 : decode cX1_become 163 = .ok (.bipush 24, 2) := dk_16 24 (dk_at dksX1_become_6 21 rfl rfl)
theorem dX1_become_165 : decode cX1_become 165 = .ok (.invokestatic 54, 3) := dk_184 0 54 (dk_at dksX1_become_7 0 rfl rfl)
theorem dX1_become_168 : decode cX1_become 168 = .ok (.return_, 1) := dk_177 (dk_at dksX1_become_7 3 rfl rfl)
theorem q70 : (Jvm.Cond.initialized "FigureTill$House") ∈ lw_all := lw_g (lw_at lw_m1 2 rfl) rfl
theorem q107 : (Jvm.Cond.instantiable "FigureTill$House" (13 : Nat)) ∈ lw_all := lw_g (lw_at lw_m1 39 rfl) rfl
theorem q109 : (Jvm.Cond.instanceMethod ({ cls := "FigureTill$House", name := "<init>", desc := "()V" } : Jvm.MethodName)) ∈ lw_all := lw_g (lw_at lw_m1 41 rfl) rfl
theorem q110 : (Jvm.Cond.code ({ cls := "FigureTill$House", name := "<init>", desc := "()V" } : Jvm.MethodName) prog_7_method_1_code (2 : Nat) (Option.none : Option Jvm.ClassFile.FieldType)) ∈ lw_all := lw_g (lw_at lw_m1 42 rfl) rfl
theorem q111 : (Jvm.Cond.methodLink "FigureTill$House" (3 : Nat) ({ cls := "java/lang/Object", name := "<init>", desc := "()V" } : Jvm.MethodName)) ∈ lw_all := lw_g (lw_at lw_m1 43 rfl) rfl
theorem q112 : (Jvm.Cond.classLink "FigureTill$House" (25 : Nat) "FigureTill$Slot") ∈ lw_all := lw_g (lw_at lw_m1 44 rfl) rfl
theorem q114 : (Jvm.Cond.classLink "FigureTill$House" (31 : Nat) "FigureTill$Text") ∈ lw_all := lw_g (lw_at lw_m1 46 rfl) rfl
theorem q117 : (Jvm.Cond.methodLinkNest "FigureTill$House" (44 : Nat) ({ cls := "FigureTill$Slot", name := "<init>", desc := "()V" } : Jvm.MethodName) "FigureTill") ∈ lw_tbl := lw_at lw_m1 49 rfl
theorem q121 : (Jvm.Cond.fieldLinkNest "FigureTill$House" (50 : Nat) "FigureTill$Slot" "held" "Ljava/lang/Object;" "FigureTill") ∈ lw_tbl := lw_at lw_m1 53 rfl
theorem q128 : (Jvm.Cond.classLink "FigureTill$House" (45 : Nat) "FigureTill$Till") ∈ lw_all := lw_g (lw_at lw_m1 60 rfl) rfl
theorem q130 : (Jvm.Cond.methodLink "FigureTill$House" (47 : Nat) ({ cls := "FigureTill$Till", name := "<init>", desc := "(II)V" } : Jvm.MethodName)) ∈ lw_all := lw_g (lw_at lw_m1 62 rfl) rfl
theorem q152 : (Jvm.Cond.fieldLink "FigureTill$House" (9 : Nat) "FigureTill$House" "price" "[I") ∈ lw_all := lw_g (lw_at lw_m1 84 rfl) rfl
theorem q154 : (Jvm.Cond.fieldLink "FigureTill$House" (15 : Nat) "FigureTill$House" "cost" "[I") ∈ lw_all := lw_g (lw_at lw_m1 86 rfl) rfl
theorem q156 : (Jvm.Cond.fieldLink "FigureTill$House" (18 : Nat) "FigureTill$House" "stock" "[I") ∈ lw_all := lw_g (lw_at lw_m1 88 rfl) rfl
theorem q158 : (Jvm.Cond.fieldLink "FigureTill$House" (60 : Nat) "FigureTill$House" "takings" "I") ∈ lw_all := lw_g (lw_at lw_m1 90 rfl) rfl
theorem q160 : (Jvm.Cond.fieldLink "FigureTill$House" (63 : Nat) "FigureTill$House" "costs" "I") ∈ lw_all := lw_g (lw_at lw_m1 92 rfl) rfl
theorem q162 : (Jvm.Cond.fieldLink "FigureTill$House" (66 : Nat) "FigureTill$House" "goes" "I") ∈ lw_all := lw_g (lw_at lw_m1 94 rfl) rfl
theorem q164 : (Jvm.Cond.fieldLink "FigureTill$House" (21 : Nat) "FigureTill$House" "z" "I") ∈ lw_all := lw_g (lw_at lw_m1 96 rfl) rfl
theorem q166 : (Jvm.Cond.fieldLink "FigureTill$House" (69 : Nat) "FigureTill$House" "taped" "I") ∈ lw_all := lw_g (lw_at lw_m1 98 rfl) rfl
theorem q168 : (Jvm.Cond.fieldLink "FigureTill$House" (72 : Nat) "FigureTill$House" "waiting" "I") ∈ lw_all := lw_g (lw_at lw_m1 100 rfl) rfl
theorem q170 : (Jvm.Cond.fieldLink "FigureTill$House" (27 : Nat) "FigureTill$House" "till" "[LFigureTill$Slot;") ∈ lw_all := lw_g (lw_at lw_m1 102 rfl) rfl
theorem q172 : (Jvm.Cond.fieldLink "FigureTill$House" (33 : Nat) "FigureTill$House" "texts" "[LFigureTill$Text;") ∈ lw_all := lw_g (lw_at lw_m1 104 rfl) rfl
theorem q175 : (Jvm.Cond.fieldLink "FigureTill$House" (37 : Nat) "FigureTill$House" "tape" "[B") ∈ lw_all := lw_g (lw_at lw_m1 107 rfl) rfl
theorem q177 : (Jvm.Cond.fieldLink "FigureTill$House" (41 : Nat) "FigureTill$House" "waits" "[I") ∈ lw_all := lw_g (lw_at lw_m1 109 rfl) rfl
theorem q179 : (Jvm.Cond.laysFinal "FigureTill$House" "FigureTill$House" "price" "[I") ∈ lw_all := lw_g (lw_at lw_m1 111 rfl) rfl
theorem q180 : (Jvm.Cond.soleField "FigureTill$House" "price") ∈ lw_all := lw_g (lw_at lw_m1 112 rfl) rfl
theorem q181 : (Jvm.Cond.laysFinal "FigureTill$House" "FigureTill$House" "cost" "[I") ∈ lw_all := lw_g (lw_at lw_m1 113 rfl) rfl
theorem q182 : (Jvm.Cond.soleField "FigureTill$House" "cost") ∈ lw_all := lw_g (lw_at lw_m1 114 rfl) rfl
theorem q183 : (Jvm.Cond.laysFinal "FigureTill$House" "FigureTill$House" "stock" "[I") ∈ lw_all := lw_g (lw_at lw_m1 115 rfl) rfl
theorem q184 : (Jvm.Cond.soleField "FigureTill$House" "stock") ∈ lw_all := lw_g (lw_at lw_m1 116 rfl) rfl
theorem q185 : (Jvm.Cond.lays "FigureTill$House" "FigureTill$House" "takings" "I") ∈ lw_all := lw_g (lw_at lw_m1 117 rfl) rfl
theorem q186 : (Jvm.Cond.soleField "FigureTill$House" "takings") ∈ lw_all := lw_g (lw_at lw_m1 118 rfl) rfl
theorem q187 : (Jvm.Cond.lays "FigureTill$House" "FigureTill$House" "costs" "I") ∈ lw_all := lw_g (lw_at lw_m1 119 rfl) rfl
theorem q188 : (Jvm.Cond.soleField "FigureTill$House" "costs") ∈ lw_all := lw_g (lw_at lw_m1 120 rfl) rfl
theorem q189 : (Jvm.Cond.lays "FigureTill$House" "FigureTill$House" "goes" "I") ∈ lw_all := lw_g (lw_at lw_m1 121 rfl) rfl
theorem q190 : (Jvm.Cond.soleField "FigureTill$House" "goes") ∈ lw_all := lw_g (lw_at lw_m1 122 rfl) rfl
theorem q191 : (Jvm.Cond.lays "FigureTill$House" "FigureTill$House" "z" "I") ∈ lw_all := lw_g (lw_at lw_m1 123 rfl) rfl
theorem q192 : (Jvm.Cond.soleField "FigureTill$House" "z") ∈ lw_all := lw_g (lw_at lw_m1 124 rfl) rfl
theorem q193 : (Jvm.Cond.lays "FigureTill$House" "FigureTill$House" "taped" "I") ∈ lw_all := lw_g (lw_at lw_m1 125 rfl) rfl
theorem q194 : (Jvm.Cond.soleField "FigureTill$House" "taped") ∈ lw_all := lw_g (lw_at lw_m1 126 rfl) rfl
theorem q195 : (Jvm.Cond.lays "FigureTill$House" "FigureTill$House" "waiting" "I") ∈ lw_all := lw_g (lw_at lw_m1 127 rfl) rfl
theorem q196 : (Jvm.Cond.soleField "FigureTill$House" "waiting") ∈ lw_all := lw_g (lw_at lw_m1 128 rfl) rfl
theorem q197 : (Jvm.Cond.laysFinal "FigureTill$House" "FigureTill$House" "till" "[LFigureTill$Slot;") ∈ lw_all := lw_g (lw_at lw_m1 129 rfl) rfl
theorem q198 : (Jvm.Cond.soleField "FigureTill$House" "till") ∈ lw_all := lw_g (lw_at lw_m1 130 rfl) rfl
theorem q199 : (Jvm.Cond.laysFinal "FigureTill$House" "FigureTill$House" "texts" "[LFigureTill$Text;") ∈ lw_all := lw_g (lw_at lw_m1 131 rfl) rfl
theorem q200 : (Jvm.Cond.soleField "FigureTill$House" "texts") ∈ lw_all := lw_g (lw_at lw_m1 132 rfl) rfl
theorem q201 : (Jvm.Cond.laysFinal "FigureTill$House" "FigureTill$House" "tape" "[B") ∈ lw_all := lw_g (lw_at lw_m1 133 rfl) rfl
theorem q202 : (Jvm.Cond.soleField "FigureTill$House" "tape") ∈ lw_all := lw_g (lw_at lw_m1 134 rfl) rfl
theorem q203 : (Jvm.Cond.laysFinal "FigureTill$House" "FigureTill$House" "waits" "[I") ∈ lw_all := lw_g (lw_at lw_m1 135 rfl) rfl
theorem q204 : (Jvm.Cond.soleField "FigureTill$House" "waits") ∈ lw_all := lw_g (lw_at lw_m1 136 rfl) rfl
theorem q205 : (Jvm.Cond.superclass "FigureTill$House" "java/lang/Object") ∈ lw_all := lw_g (lw_at lw_m1 137 rfl) rfl
theorem q340 : (Jvm.Cond.instanceMethod ({ cls := "FigureTill$House", name := "at", desc := "(I)LFigureTill$Till;" } : Jvm.MethodName)) ∈ lw_all := lw_g (lw_at lw_m2 32 rfl) rfl
theorem q341 : (Jvm.Cond.selects "FigureTill$House" ({ cls := "FigureTill$House", name := "at", desc := "(I)LFigureTill$Till;" } : Jvm.MethodName) ({ cls := "FigureTill$House", name := "at", desc := "(I)LFigureTill$Till;" } : Jvm.MethodName)) ∈ lw_all := lw_g (lw_at lw_m2 33 rfl) rfl
theorem q342 : (Jvm.Cond.code ({ cls := "FigureTill$House", name := "at", desc := "(I)LFigureTill$Till;" } : Jvm.MethodName) prog_7_method_3_code (2 : Nat) (Option.some (Jvm.ClassFile.FieldType.object "FigureTill$Till"))) ∈ lw_all := lw_g (lw_at lw_m2 34 rfl) rfl
theorem q859 : (Jvm.Cond.instanceMethod ({ cls := "FigureTill$House", name := "drawn", desc := "()I" } : Jvm.MethodName)) ∈ lw_all := lw_g (lw_at lw_m4 71 rfl) rfl
theorem q860 : (Jvm.Cond.selects "FigureTill$House" ({ cls := "FigureTill$House", name := "drawn", desc := "()I" } : Jvm.MethodName) ({ cls := "FigureTill$House", name := "drawn", desc := "()I" } : Jvm.MethodName)) ∈ lw_all := lw_g (lw_at lw_m4 72 rfl) rfl
theorem q861 : (Jvm.Cond.code ({ cls := "FigureTill$House", name := "drawn", desc := "()I" } : Jvm.MethodName) prog_7_method_4_code (1 : Nat) (Option.some Jvm.ClassFile.FieldType.int)) ∈ lw_all := lw_g (lw_at lw_m4 73 rfl) rfl
theorem q862 : (Jvm.Cond.constant "FigureTill$House" (75 : Nat) (1103515245 : Int32)) ∈ lw_all := lw_g (lw_at lw_m4 74 rfl) rfl
theorem q1134 : (Jvm.Cond.instanceMethod ({ cls := "FigureTill$House", name := "become", desc := "(LFigureTill$House;)V" } : Jvm.MethodName)) ∈ lw_all := lw_g (lw_at lw_m5 106 rfl) rfl
theorem q1135 : (Jvm.Cond.selects "FigureTill$House" ({ cls := "FigureTill$House", name := "become", desc := "(LFigureTill$House;)V" } : Jvm.MethodName) ({ cls := "FigureTill$House", name := "become", desc := "(LFigureTill$House;)V" } : Jvm.MethodName)) ∈ lw_all := lw_g (lw_at lw_m5 107 rfl) rfl
theorem q1136 : (Jvm.Cond.code ({ cls := "FigureTill$House", name := "become", desc := "(LFigureTill$House;)V" } : Jvm.MethodName) prog_7_method_2_code (3 : Nat) (Option.none : Option Jvm.ClassFile.FieldType)) ∈ lw_all := lw_g (lw_at lw_m5 108 rfl) rfl
theorem q1137 : (Jvm.Cond.methodLink "FigureTill$House" (54 : Nat) ({ cls := "java/lang/System", name := "arraycopy", desc := "(Ljava/lang/Object;ILjava/lang/Object;II)V" } : Jvm.MethodName)) ∈ lw_all := lw_g (lw_at lw_m5 109 rfl) rfl
theorem in_X1 : ∀ w ∈ wsX10, w ∈ lw_all := lw_in wsX10 [179, 181, 183, 185, 187, 189, 191, 193, 195, 197, 199, 201, 203] (by decide +kernel) (by decide +kernel)
/-! FigureTill$Slot -/
def RX2 : String := "FigureTill$Slot"
def TX2 : u_T := fun k => match k with
  | _ => ("FigureTill$Slot", "held", "Ljava/lang/Object;", false)
def tyX2 : Nat → FieldType := fun k => match k with
  | _ => .object "java/lang/Object"
abbrev wsX20 : List Cond := u_ws RX2 TX2 1
theorem nmX2 : ∀ a, a < 1 → ∀ b, b < 1 → a ≠ b → (TX2 a).2.1 ≠ (TX2 b).2.1 := by decide +kernel
theorem tyX2_ok : ∀ k, k < 1 → parseFieldDescriptor (TX2 k).2.2.1 = some (tyX2 k) := by decide +kernel
abbrev cX2_init : ByteArray := prog_14_method_1_code
def yX2_init : MethodName := ⟨RX2, "<init>", "()V"⟩
theorem dX2_init_0 : decode cX2_init 0 = .ok (.aload_n 0, 1) := by decide +kernel
theorem dX2_init_1 : decode cX2_init 1 = .ok (.invokespecial 1, 3) := by decide +kernel
theorem dX2_init_4 : decode cX2_init 4 = .ok (.return_, 1) := by decide +kernel
theorem q71 : (Jvm.Cond.initialized "FigureTill$Slot") ∈ lw_all := lw_g (lw_at lw_m1 3 rfl) rfl
theorem q116 : (Jvm.Cond.instantiable "FigureTill$Slot" (1 : Nat)) ∈ lw_all := lw_g (lw_at lw_m1 48 rfl) rfl
theorem q118 : (Jvm.Cond.instanceMethod ({ cls := "FigureTill$Slot", name := "<init>", desc := "()V" } : Jvm.MethodName)) ∈ lw_all := lw_g (lw_at lw_m1 50 rfl) rfl
theorem q119 : (Jvm.Cond.code ({ cls := "FigureTill$Slot", name := "<init>", desc := "()V" } : Jvm.MethodName) prog_14_method_1_code (1 : Nat) (Option.none : Option Jvm.ClassFile.FieldType)) ∈ lw_all := lw_g (lw_at lw_m1 51 rfl) rfl
theorem q120 : (Jvm.Cond.methodLink "FigureTill$Slot" (1 : Nat) ({ cls := "java/lang/Object", name := "<init>", desc := "()V" } : Jvm.MethodName)) ∈ lw_all := lw_g (lw_at lw_m1 52 rfl) rfl
theorem q123 : (Jvm.Cond.lays "FigureTill$Slot" "FigureTill$Slot" "held" "Ljava/lang/Object;") ∈ lw_all := lw_g (lw_at lw_m1 55 rfl) rfl
theorem q124 : (Jvm.Cond.soleField "FigureTill$Slot" "held") ∈ lw_all := lw_g (lw_at lw_m1 56 rfl) rfl
theorem q125 : (Jvm.Cond.superclass "FigureTill$Slot" "java/lang/Object") ∈ lw_all := lw_g (lw_at lw_m1 57 rfl) rfl
theorem in_X2 : ∀ w ∈ wsX20, w ∈ lw_all := lw_in wsX20 [123] (by decide +kernel) (by decide +kernel)
/-! FigureTill$Till -/
def RX3 : String := "FigureTill$Till"
def TX3 : u_T := fun k => match k with
  | 0 => ("FigureTill$Till", "number", "I", true)
  | _ => ("FigureTill$Till", "m", "I", true)
def tyX3 : Nat → FieldType := fun k => match k with
  | 0 => .int
  | _ => .int
abbrev wsX30 : List Cond := u_ws RX3 TX3 2
theorem nmX3 : ∀ a, a < 2 → ∀ b, b < 2 → a ≠ b → (TX3 a).2.1 ≠ (TX3 b).2.1 := by decide +kernel
theorem tyX3_ok : ∀ k, k < 2 → parseFieldDescriptor (TX3 k).2.2.1 = some (tyX3 k) := by decide +kernel
abbrev cX3_init : ByteArray := prog_16_method_1_code
def yX3_init : MethodName := ⟨RX3, "<init>", "(II)V"⟩
def dkwX3_init_0 : List UInt8 := [42, 183, 0, 1, 42, 27, 181, 0, 7, 42, 28, 181, 0, 13, 177]
abbrev dktX3_init_0 : List UInt8 := dkwX3_init_0 ++ []
theorem dksX3_init_0 : cX3_init.data.toList.drop 0 = dktX3_init_0 := by decide +kernel
theorem dX3_init_0 : decode cX3_init 0 = .ok (.aload_n 0, 1) := dk_42 (dk_at dksX3_init_0 0 rfl rfl)
theorem dX3_init_1 : decode cX3_init 1 = .ok (.invokespecial 1, 3) := dk_183 0 1 (dk_at dksX3_init_0 1 rfl rfl)
theorem dX3_init_4 : decode cX3_init 4 = .ok (.aload_n 0, 1) := dk_42 (dk_at dksX3_init_0 4 rfl rfl)
theorem dX3_init_5 : decode cX3_init 5 = .ok (.iload_n 1, 1) := dk_27 (dk_at dksX3_init_0 5 rfl rfl)
theorem dX3_init_6 : decode cX3_init 6 = .ok (.putfield 7, 3) := dk_181 0 7 (dk_at dksX3_init_0 6 rfl rfl)
theorem dX3_init_9 : decode cX3_init 9 = .ok (.aload_n 0, 1) := dk_42 (dk_at dksX3_init_0 9 rfl rfl)
theorem dX3_init_10 : decode cX3_init 10 = .ok (.iload_n 2, 1) := dk_28 (dk_at dksX3_init_0 10 rfl rfl)
theorem dX3_init_11 : decode cX3_init 11 = .ok (.putfield 13, 3) := dk_181 0 13 (dk_at dksX3_init_0 11 rfl rfl)
theorem dX3_init_14 : decode cX3_init 14 = .ok (.return_, 1) := dk_177 (dk_at dksX3_init_0 14 rfl rfl)
abbrev cX3_kind : ByteArray := prog_16_method_2_code
def yX3_kind : MethodName := ⟨RX3, "kind", "()I"⟩
theorem dX3_kind_0 : decode cX3_kind 0 = .ok (.iconst 0, 1) := by decide +kernel
theorem dX3_kind_1 : decode cX3_kind 1 = .ok (.ireturn, 1) := by decide +kernel
abbrev cX3_pays : ByteArray := prog_16_method_3_code
def yX3_pays : MethodName := ⟨RX3, "pays", "(LFigureTill$Sees;II)I"⟩
def dkwX3_pays_0 : List UInt8 := [28, 16, 10, 184, 0, 16, 172]
abbrev dktX3_pays_0 : List UInt8 := dkwX3_pays_0 ++ []
theorem dksX3_pays_0 : cX3_pays.data.toList.drop 0 = dktX3_pays_0 := by decide +kernel
theorem dX3_pays_0 : decode cX3_pays 0 = .ok (.iload_n 2, 1) := dk_28 (dk_at dksX3_pays_0 0 rfl rfl)
theorem dX3_pays_1 : decode cX3_pays 1 = .ok (.bipush 10, 2) := dk_16 10 (dk_at dksX3_pays_0 1 rfl rfl)
theorem dX3_pays_3 : decode cX3_pays 3 = .ok (.invokestatic 16, 3) := dk_184 0 16 (dk_at dksX3_pays_0 3 rfl rfl)
theorem dX3_pays_6 : decode cX3_pays 6 = .ok (.ireturn, 1) := dk_172 (dk_at dksX3_pays_0 6 rfl rfl)
abbrev cX3_adds : ByteArray := prog_16_method_4_code
def yX3_adds : MethodName := ⟨RX3, "adds", "(ILFigureTill$Trace;)I"⟩
def dkwX3_adds_0 : List UInt8 := [44, 16, 10, 182, 0, 22, 27, 42, 180, 0, 7, 96, 172]
abbrev dktX3_adds_0 : List UInt8 := dkwX3_adds_0 ++ []
theorem dksX3_adds_0 : cX3_adds.data.toList.drop 0 = dktX3_adds_0 := by decide +kernel
theorem dX3_adds_0 : decode cX3_adds 0 = .ok (.aload_n 2, 1) := dk_44 (dk_at dksX3_adds_0 0 rfl rfl)
theorem dX3_adds_1 : decode cX3_adds 1 = .ok (.bipush 10, 2) := dk_16 10 (dk_at dksX3_adds_0 1 rfl rfl)
theorem dX3_adds_3 : decode cX3_adds 3 = .ok (.invokevirtual 22, 3) := dk_182 0 22 (dk_at dksX3_adds_0 3 rfl rfl)
theorem dX3_adds_6 : decode cX3_adds 6 = .ok (.iload_n 1, 1) := dk_27 (dk_at dksX3_adds_0 6 rfl rfl)
theorem dX3_adds_7 : decode cX3_adds 7 = .ok (.aload_n 0, 1) := dk_42 (dk_at dksX3_adds_0 7 rfl rfl)
theorem dX3_adds_8 : decode cX3_adds 8 = .ok (.getfield 7, 3) := dk_180 0 7 (dk_at dksX3_adds_0 8 rfl rfl)
theorem dX3_adds_11 : decode cX3_adds 11 = .ok (.iadd, 1) := dk_96 (dk_at dksX3_adds_0 11 rfl rfl)
theorem dX3_adds_12 : decode cX3_adds 12 = .ok (.ireturn, 1) := dk_172 (dk_at dksX3_adds_0 12 rfl rfl)
abbrev cX3_gives : ByteArray := prog_16_method_5_code
def yX3_gives : MethodName := ⟨RX3, "gives", "(ILFigureTill$Trace;)I"⟩
def dkwX3_gives_0 : List UInt8 := [44, 16, 12, 182, 0, 22, 42, 27, 44, 182, 0, 28, 42, 180, 0, 13, 100, 172]
abbrev dktX3_gives_0 : List UInt8 := dkwX3_gives_0 ++ []
theorem dksX3_gives_0 : cX3_gives.data.toList.drop 0 = dktX3_gives_0 := by decide +kernel
theorem dX3_gives_0 : decode cX3_gives 0 = .ok (.aload_n 2, 1) := dk_44 (dk_at dksX3_gives_0 0 rfl rfl)
theorem dX3_gives_1 : decode cX3_gives 1 = .ok (.bipush 12, 2) := dk_16 12 (dk_at dksX3_gives_0 1 rfl rfl)
theorem dX3_gives_3 : decode cX3_gives 3 = .ok (.invokevirtual 22, 3) := dk_182 0 22 (dk_at dksX3_gives_0 3 rfl rfl)
theorem dX3_gives_6 : decode cX3_gives 6 = .ok (.aload_n 0, 1) := dk_42 (dk_at dksX3_gives_0 6 rfl rfl)
theorem dX3_gives_7 : decode cX3_gives 7 = .ok (.iload_n 1, 1) := dk_27 (dk_at dksX3_gives_0 7 rfl rfl)
theorem dX3_gives_8 : decode cX3_gives 8 = .ok (.aload_n 2, 1) := dk_44 (dk_at dksX3_gives_0 8 rfl rfl)
theorem dX3_gives_9 : decode cX3_gives 9 = .ok (.invokevirtual 28, 3) := dk_182 0 28 (dk_at dksX3_gives_0 9 rfl rfl)
theorem dX3_gives_12 : decode cX3_gives 12 = .ok (.aload_n 0, 1) := dk_42 (dk_at dksX3_gives_0 12 rfl rfl)
theorem dX3_gives_13 : decode cX3_gives 13 = .ok (.getfield 13, 3) := dk_180 0 13 (dk_at dksX3_gives_0 13 rfl rfl)
theorem dX3_gives_16 : decode cX3_gives 16 = .ok (.isub, 1) := dk_100 (dk_at dksX3_gives_0 16 rfl rfl)
theorem dX3_gives_17 : decode cX3_gives 17 = .ok (.ireturn, 1) := dk_172 (dk_at dksX3_gives_0 17 rfl rfl)
abbrev cX3_parts : ByteArray := prog_16_method_6_code
def yX3_parts : MethodName := ⟨RX3, "parts", "(ILFigureTill$Trace;)I"⟩
def dkwX3_parts_0 : List UInt8 := [44, 16, 13, 182, 0, 22, 27, 42, 180, 0, 13, 42, 180, 0, 7, 100, 108, 172]
abbrev dktX3_parts_0 : List UInt8 := dkwX3_parts_0 ++ []
theorem dksX3_parts_0 : cX3_parts.data.toList.drop 0 = dktX3_parts_0 := by decide +kernel
theorem dX3_parts_0 : decode cX3_parts 0 = .ok (.aload_n 2, 1) := dk_44 (dk_at dksX3_parts_0 0 rfl rfl)
theorem dX3_parts_1 : decode cX3_parts 1 = .ok (.bipush 13, 2) := dk_16 13 (dk_at dksX3_parts_0 1 rfl rfl)
theorem dX3_parts_3 : decode cX3_parts 3 = .ok (.invokevirtual 22, 3) := dk_182 0 22 (dk_at dksX3_parts_0 3 rfl rfl)
theorem dX3_parts_6 : decode cX3_parts 6 = .ok (.iload_n 1, 1) := dk_27 (dk_at dksX3_parts_0 6 rfl rfl)
theorem dX3_parts_7 : decode cX3_parts 7 = .ok (.aload_n 0, 1) := dk_42 (dk_at dksX3_parts_0 7 rfl rfl)
theorem dX3_parts_8 : decode cX3_parts 8 = .ok (.getfield 13, 3) := dk_180 0 13 (dk_at dksX3_parts_0 8 rfl rfl)
theorem dX3_parts_11 : decode cX3_parts 11 = .ok (.aload_n 0, 1) := dk_42 (dk_at dksX3_parts_0 11 rfl rfl)
theorem dX3_parts_12 : decode cX3_parts 12 = .ok (.getfield 7, 3) := dk_180 0 7 (dk_at dksX3_parts_0 12 rfl rfl)
theorem dX3_parts_15 : decode cX3_parts 15 = .ok (.isub, 1) := dk_100 (dk_at dksX3_parts_0 15 rfl rfl)
theorem dX3_parts_16 : decode cX3_parts 16 = .ok (.idiv, 1) := dk_108 (dk_at dksX3_parts_0 16 rfl rfl)
theorem dX3_parts_17 : decode cX3_parts 17 = .ok (.ireturn, 1) := dk_172 (dk_at dksX3_parts_0 17 rfl rfl)
theorem q72 : (Jvm.Cond.initialized "FigureTill$Till") ∈ lw_all := lw_g (lw_at lw_m1 4 rfl) rfl
theorem q129 : (Jvm.Cond.instantiable "FigureTill$Till" (2 : Nat)) ∈ lw_all := lw_g (lw_at lw_m1 61 rfl) rfl
theorem q131 : (Jvm.Cond.instanceMethod ({ cls := "FigureTill$Till", name := "<init>", desc := "(II)V" } : Jvm.MethodName)) ∈ lw_all := lw_g (lw_at lw_m1 63 rfl) rfl
theorem q132 : (Jvm.Cond.code ({ cls := "FigureTill$Till", name := "<init>", desc := "(II)V" } : Jvm.MethodName) prog_16_method_1_code (3 : Nat) (Option.none : Option Jvm.ClassFile.FieldType)) ∈ lw_all := lw_g (lw_at lw_m1 64 rfl) rfl
theorem q133 : (Jvm.Cond.methodLink "FigureTill$Till" (1 : Nat) ({ cls := "java/lang/Object", name := "<init>", desc := "()V" } : Jvm.MethodName)) ∈ lw_all := lw_g (lw_at lw_m1 65 rfl) rfl
theorem q134 : (Jvm.Cond.fieldLink "FigureTill$Till" (7 : Nat) "FigureTill$Till" "number" "I") ∈ lw_all := lw_g (lw_at lw_m1 66 rfl) rfl
theorem q137 : (Jvm.Cond.fieldLink "FigureTill$Till" (13 : Nat) "FigureTill$Till" "m" "I") ∈ lw_all := lw_g (lw_at lw_m1 69 rfl) rfl
theorem q147 : (Jvm.Cond.laysFinal "FigureTill$Till" "FigureTill$Till" "number" "I") ∈ lw_all := lw_g (lw_at lw_m1 79 rfl) rfl
theorem q148 : (Jvm.Cond.soleField "FigureTill$Till" "number") ∈ lw_all := lw_g (lw_at lw_m1 80 rfl) rfl
theorem q149 : (Jvm.Cond.laysFinal "FigureTill$Till" "FigureTill$Till" "m" "I") ∈ lw_all := lw_g (lw_at lw_m1 81 rfl) rfl
theorem q150 : (Jvm.Cond.soleField "FigureTill$Till" "m") ∈ lw_all := lw_g (lw_at lw_m1 82 rfl) rfl
theorem q151 : (Jvm.Cond.superclass "FigureTill$Till" "java/lang/Object") ∈ lw_all := lw_g (lw_at lw_m1 83 rfl) rfl
theorem q344 : (Jvm.Cond.instanceMethod ({ cls := "FigureTill$Till", name := "kind", desc := "()I" } : Jvm.MethodName)) ∈ lw_all := lw_g (lw_at lw_m2 36 rfl) rfl
theorem q345 : (Jvm.Cond.selects "FigureTill$Till" ({ cls := "FigureTill$Till", name := "kind", desc := "()I" } : Jvm.MethodName) ({ cls := "FigureTill$Till", name := "kind", desc := "()I" } : Jvm.MethodName)) ∈ lw_all := lw_g (lw_at lw_m2 37 rfl) rfl
theorem q346 : (Jvm.Cond.sameMethod "FigureTill$Till" "FigureTill$Till" "kind" "()I") ∈ lw_all := lw_g (lw_at lw_m2 38 rfl) rfl
theorem q352 : (Jvm.Cond.code ({ cls := "FigureTill$Till", name := "kind", desc := "()I" } : Jvm.MethodName) prog_16_method_2_code (1 : Nat) (Option.some Jvm.ClassFile.FieldType.int)) ∈ lw_all := lw_g (lw_at lw_m2 44 rfl) rfl
theorem q469 : (Jvm.Cond.instanceMethod ({ cls := "FigureTill$Till", name := "pays", desc := "(LFigureTill$Sees;II)I" } : Jvm.MethodName)) ∈ lw_all := lw_g (lw_at lw_m2 161 rfl) rfl
theorem q470 : (Jvm.Cond.code ({ cls := "FigureTill$Till", name := "pays", desc := "(LFigureTill$Sees;II)I" } : Jvm.MethodName) prog_16_method_3_code (4 : Nat) (Option.some Jvm.ClassFile.FieldType.int)) ∈ lw_all := lw_g (lw_at lw_m2 162 rfl) rfl
theorem q471 : (Jvm.Cond.methodLinkNest "FigureTill$Till" (16 : Nat) ({ cls := "FigureTill", name := "figuresOf", desc := "(II)I" } : Jvm.MethodName) "FigureTill") ∈ lw_tbl := lw_at lw_m2 163 rfl
theorem q506 : (Jvm.Cond.castable "FigureTill$Till" "FigureTill$Pays") ∈ lw_tbl := lw_at lw_m2 198 rfl
theorem q507 : (Jvm.Cond.selects "FigureTill$Till" ({ cls := "FigureTill$Pays", name := "pays", desc := "(LFigureTill$Sees;II)I" } : Jvm.MethodName) ({ cls := "FigureTill$Till", name := "pays", desc := "(LFigureTill$Sees;II)I" } : Jvm.MethodName)) ∈ lw_all := lw_g (lw_at lw_m2 199 rfl) rfl
theorem q508 : (Jvm.Cond.unhidden "FigureTill$Till" "pays" "(LFigureTill$Sees;II)I") ∈ lw_tbl := lw_at lw_m2 200 rfl
theorem q509 : (Jvm.Cond.publicMethod ({ cls := "FigureTill$Till", name := "pays", desc := "(LFigureTill$Sees;II)I" } : Jvm.MethodName)) ∈ lw_tbl := lw_at lw_m2 201 rfl
theorem q972 : (Jvm.Cond.instanceMethod ({ cls := "FigureTill$Till", name := "adds", desc := "(ILFigureTill$Trace;)I" } : Jvm.MethodName)) ∈ lw_all := lw_g (lw_at lw_m4 184 rfl) rfl
theorem q973 : (Jvm.Cond.selects "FigureTill$Till" ({ cls := "FigureTill$Till", name := "adds", desc := "(ILFigureTill$Trace;)I" } : Jvm.MethodName) ({ cls := "FigureTill$Till", name := "adds", desc := "(ILFigureTill$Trace;)I" } : Jvm.MethodName)) ∈ lw_all := lw_g (lw_at lw_m4 185 rfl) rfl
theorem q974 : (Jvm.Cond.sameMethod "FigureTill$Till" "FigureTill$Till" "adds" "(ILFigureTill$Trace;)I") ∈ lw_all := lw_g (lw_at lw_m4 186 rfl) rfl
theorem q988 : (Jvm.Cond.code ({ cls := "FigureTill$Till", name := "adds", desc := "(ILFigureTill$Trace;)I" } : Jvm.MethodName) prog_16_method_4_code (3 : Nat) (Option.some Jvm.ClassFile.FieldType.int)) ∈ lw_all := lw_g (lw_at lw_m4 200 rfl) rfl
theorem q989 : (Jvm.Cond.methodLink "FigureTill$Till" (22 : Nat) ({ cls := "FigureTill$Trace", name := "ran", desc := "(I)V" } : Jvm.MethodName)) ∈ lw_all := lw_g (lw_at lw_m4 201 rfl) rfl
theorem q1019 : (Jvm.Cond.publicMethod ({ cls := "FigureTill$Till", name := "adds", desc := "(ILFigureTill$Trace;)I" } : Jvm.MethodName)) ∈ lw_tbl := lw_at lw_m4 231 rfl
theorem q1034 : (Jvm.Cond.castable "FigureTill$Till" "FigureTill$Comes") ∈ lw_tbl := lw_at lw_m5 6 rfl
theorem q1035 : (Jvm.Cond.selects "FigureTill$Till" ({ cls := "FigureTill$Comes", name := "adds", desc := "(ILFigureTill$Trace;)I" } : Jvm.MethodName) ({ cls := "FigureTill$Till", name := "adds", desc := "(ILFigureTill$Trace;)I" } : Jvm.MethodName)) ∈ lw_all := lw_g (lw_at lw_m5 7 rfl) rfl
theorem q1036 : (Jvm.Cond.unhidden "FigureTill$Till" "adds" "(ILFigureTill$Trace;)I") ∈ lw_tbl := lw_at lw_m5 8 rfl
theorem q1042 : (Jvm.Cond.unhidden "FigureTill$Till" "comes" "(ILFigureTill$Trace;)I") ∈ lw_tbl := lw_at lw_m5 14 rfl
theorem q1048 : (Jvm.Cond.instanceMethod ({ cls := "FigureTill$Till", name := "gives", desc := "(ILFigureTill$Trace;)I" } : Jvm.MethodName)) ∈ lw_all := lw_g (lw_at lw_m5 20 rfl) rfl
theorem q1049 : (Jvm.Cond.selects "FigureTill$Till" ({ cls := "FigureTill$Till", name := "gives", desc := "(ILFigureTill$Trace;)I" } : Jvm.MethodName) ({ cls := "FigureTill$Till", name := "gives", desc := "(ILFigureTill$Trace;)I" } : Jvm.MethodName)) ∈ lw_all := lw_g (lw_at lw_m5 21 rfl) rfl
theorem q1050 : (Jvm.Cond.sameMethod "FigureTill$Till" "FigureTill$Till" "gives" "(ILFigureTill$Trace;)I") ∈ lw_all := lw_g (lw_at lw_m5 22 rfl) rfl
theorem q1056 : (Jvm.Cond.code ({ cls := "FigureTill$Till", name := "gives", desc := "(ILFigureTill$Trace;)I" } : Jvm.MethodName) prog_16_method_5_code (3 : Nat) (Option.some Jvm.ClassFile.FieldType.int)) ∈ lw_all := lw_g (lw_at lw_m5 28 rfl) rfl
theorem q1062 : (Jvm.Cond.declares ({ cls := "FigureTill$Till", name := "gives", desc := "(ILFigureTill$Trace;)I" } : Jvm.MethodName)) ∈ lw_tbl := lw_at lw_m5 34 rfl
theorem q1068 : (Jvm.Cond.instanceMethod ({ cls := "FigureTill$Till", name := "parts", desc := "(ILFigureTill$Trace;)I" } : Jvm.MethodName)) ∈ lw_all := lw_g (lw_at lw_m5 40 rfl) rfl
theorem q1069 : (Jvm.Cond.selects "FigureTill$Till" ({ cls := "FigureTill$Till", name := "parts", desc := "(ILFigureTill$Trace;)I" } : Jvm.MethodName) ({ cls := "FigureTill$Till", name := "parts", desc := "(ILFigureTill$Trace;)I" } : Jvm.MethodName)) ∈ lw_all := lw_g (lw_at lw_m5 41 rfl) rfl
theorem q1070 : (Jvm.Cond.sameMethod "FigureTill$Till" "FigureTill$Till" "parts" "(ILFigureTill$Trace;)I") ∈ lw_all := lw_g (lw_at lw_m5 42 rfl) rfl
theorem q1076 : (Jvm.Cond.code ({ cls := "FigureTill$Till", name := "parts", desc := "(ILFigureTill$Trace;)I" } : Jvm.MethodName) prog_16_method_6_code (3 : Nat) (Option.some Jvm.ClassFile.FieldType.int)) ∈ lw_all := lw_g (lw_at lw_m5 48 rfl) rfl
theorem q1590 : (Jvm.Cond.sameMethod "FigureTill$Till" "FigureTill$Till" "pays" "(LFigureTill$Sees;II)I") ∈ lw_all := lw_g (lw_at lw_m7 82 rfl) rfl
theorem in_X3 : ∀ w ∈ wsX30, w ∈ lw_all := lw_in wsX30 [147, 149] (by decide +kernel) (by decide +kernel)
/-! FigureTill$Trace -/
def RX4 : String := "FigureTill$Trace"
def TX4 : u_T := fun k => match k with
  | 0 => ("FigureTill$Trace", "bodies", "[B", true)
  | _ => ("FigureTill$Trace", "many", "I", false)
def tyX4 : Nat → FieldType := fun k => match k with
  | 0 => .array .byte
  | _ => .int
abbrev wsX40 : List Cond := u_ws RX4 TX4 2
theorem nmX4 : ∀ a, a < 2 → ∀ b, b < 2 → a ≠ b → (TX4 a).2.1 ≠ (TX4 b).2.1 := by decide +kernel
theorem tyX4_ok : ∀ k, k < 2 → parseFieldDescriptor (TX4 k).2.2.1 = some (tyX4 k) := by decide +kernel
abbrev cX4_init : ByteArray := prog_18_method_1_code
def yX4_init : MethodName := ⟨RX4, "<init>", "()V"⟩
def dkwX4_init_0 : List UInt8 := [42, 183, 0, 3, 42, 16, 30, 188, 8, 181, 0, 9, 177]
abbrev dktX4_init_0 : List UInt8 := dkwX4_init_0 ++ []
theorem dksX4_init_0 : cX4_init.data.toList.drop 0 = dktX4_init_0 := by decide +kernel
theorem dX4_init_0 : decode cX4_init 0 = .ok (.aload_n 0, 1) := dk_42 (dk_at dksX4_init_0 0 rfl rfl)
theorem dX4_init_1 : decode cX4_init 1 = .ok (.invokespecial 3, 3) := dk_183 0 3 (dk_at dksX4_init_0 1 rfl rfl)
theorem dX4_init_4 : decode cX4_init 4 = .ok (.aload_n 0, 1) := dk_42 (dk_at dksX4_init_0 4 rfl rfl)
theorem dX4_init_5 : decode cX4_init 5 = .ok (.bipush 30, 2) := dk_16 30 (dk_at dksX4_init_0 5 rfl rfl)
theorem dX4_init_7 : decode cX4_init 7 = .ok (.newarray .byte, 2) := dk_188_8 (dk_at dksX4_init_0 7 rfl rfl)
theorem dX4_init_9 : decode cX4_init 9 = .ok (.putfield 9, 3) := dk_181 0 9 (dk_at dksX4_init_0 9 rfl rfl)
theorem dX4_init_12 : decode cX4_init 12 = .ok (.return_, 1) := dk_177 (dk_at dksX4_init_0 12 rfl rfl)
abbrev cX4_ran : ByteArray := prog_18_method_2_code
def yX4_ran : MethodName := ⟨RX4, "ran", "(I)V"⟩
def dkwX4_ran_1 : List UInt8 := [27, 145, 84, 177]
abbrev dktX4_ran_1 : List UInt8 := dkwX4_ran_1 ++ []
def dkwX4_ran_0 : List UInt8 := [42, 180, 0, 15, 16, 30, 162, 0, 21, 42, 180, 0, 9, 42, 89, 180, 0, 15, 90, 4, 96, 181, 0, 15]
abbrev dktX4_ran_0 : List UInt8 := dkwX4_ran_0 ++ dktX4_ran_1
theorem dksX4_ran_0 : cX4_ran.data.toList.drop 0 = dktX4_ran_0 := by decide +kernel
theorem dksX4_ran_1 : cX4_ran.data.toList.drop 24 = dktX4_ran_1 := dk_seg dksX4_ran_0 24 rfl rfl
theorem dX4_ran_0 : decode cX4_ran 0 = .ok (.aload_n 0, 1) := dk_42 (dk_at dksX4_ran_0 0 rfl rfl)
theorem dX4_ran_1 : decode cX4_ran 1 = .ok (.getfield 15, 3) := dk_180 0 15 (dk_at dksX4_ran_0 1 rfl rfl)
theorem dX4_ran_4 : decode cX4_ran 4 = .ok (.bipush 30, 2) := dk_16 30 (dk_at dksX4_ran_0 4 rfl rfl)
theorem dX4_ran_6 : decode cX4_ran 6 = .ok (.if_icmp .ge 21, 3) := dk_162 0 21 (dk_at dksX4_ran_0 6 rfl rfl)
theorem dX4_ran_9 : decode cX4_ran 9 = .ok (.aload_n 0, 1) := dk_42 (dk_at dksX4_ran_0 9 rfl rfl)
theorem dX4_ran_10 : decode cX4_ran 10 = .ok (.getfield 9, 3) := dk_180 0 9 (dk_at dksX4_ran_0 10 rfl rfl)
theorem dX4_ran_13 : decode cX4_ran 13 = .ok (.aload_n 0, 1) := dk_42 (dk_at dksX4_ran_0 13 rfl rfl)
theorem dX4_ran_14 : decode cX4_ran 14 = .ok (.dup, 1) := dk_89 (dk_at dksX4_ran_0 14 rfl rfl)
theorem dX4_ran_15 : decode cX4_ran 15 = .ok (.getfield 15, 3) := dk_180 0 15 (dk_at dksX4_ran_0 15 rfl rfl)
theorem dX4_ran_18 : decode cX4_ran 18 = .ok (.dup_x1, 1) := dk_90 (dk_at dksX4_ran_0 18 rfl rfl)
theorem dX4_ran_19 : decode cX4_ran 19 = .ok (.iconst 1, 1) := dk_4 (dk_at dksX4_ran_0 19 rfl rfl)
theorem dX4_ran_20 : decode cX4_ran 20 = .ok (.iadd, 1) := dk_96 (dk_at dksX4_ran_0 20 rfl rfl)
theorem dX4_ran_21 : decode cX4_ran 21 = .ok (.putfield 15, 3) := dk_181 0 15 (dk_at dksX4_ran_0 21 rfl rfl)
theorem dX4_ran_24 : decode cX4_ran 24 = .ok (.iload_n 1, 1) := dk_27 (dk_at dksX4_ran_1 0 rfl rfl)
theorem dX4_ran_25 : decode cX4_ran 25 = .ok (.i2b, 1) := dk_145 (dk_at dksX4_ran_1 1 rfl rfl)
theorem dX4_ran_26 : decode cX4_ran 26 = .ok (.bastore, 1) := dk_84 (dk_at dksX4_ran_1 2 rfl rfl)
theorem dX4_ran_27 : decode cX4_ran 27 = .ok (.return_, 1) := dk_177 (dk_at dksX4_ran_1 3 rfl rfl)
theorem q73 : (Jvm.Cond.initialized "FigureTill$Trace") ∈ lw_all := lw_g (lw_at lw_m1 5 rfl) rfl
theorem q207 : (Jvm.Cond.instantiable "FigureTill$Trace" (2 : Nat)) ∈ lw_all := lw_g (lw_at lw_m1 139 rfl) rfl
theorem q209 : (Jvm.Cond.instanceMethod ({ cls := "FigureTill$Trace", name := "<init>", desc := "()V" } : Jvm.MethodName)) ∈ lw_all := lw_g (lw_at lw_m1 141 rfl) rfl
theorem q210 : (Jvm.Cond.code ({ cls := "FigureTill$Trace", name := "<init>", desc := "()V" } : Jvm.MethodName) prog_18_method_1_code (1 : Nat) (Option.none : Option Jvm.ClassFile.FieldType)) ∈ lw_all := lw_g (lw_at lw_m1 142 rfl) rfl
theorem q211 : (Jvm.Cond.methodLink "FigureTill$Trace" (3 : Nat) ({ cls := "java/lang/Object", name := "<init>", desc := "()V" } : Jvm.MethodName)) ∈ lw_all := lw_g (lw_at lw_m1 143 rfl) rfl
theorem q212 : (Jvm.Cond.fieldLink "FigureTill$Trace" (9 : Nat) "FigureTill$Trace" "bodies" "[B") ∈ lw_all := lw_g (lw_at lw_m1 144 rfl) rfl
theorem q214 : (Jvm.Cond.fieldLink "FigureTill$Trace" (15 : Nat) "FigureTill$Trace" "many" "I") ∈ lw_all := lw_g (lw_at lw_m1 146 rfl) rfl
theorem q216 : (Jvm.Cond.laysFinal "FigureTill$Trace" "FigureTill$Trace" "bodies" "[B") ∈ lw_all := lw_g (lw_at lw_m1 148 rfl) rfl
theorem q217 : (Jvm.Cond.soleField "FigureTill$Trace" "bodies") ∈ lw_all := lw_g (lw_at lw_m1 149 rfl) rfl
theorem q218 : (Jvm.Cond.lays "FigureTill$Trace" "FigureTill$Trace" "many" "I") ∈ lw_all := lw_g (lw_at lw_m1 150 rfl) rfl
theorem q219 : (Jvm.Cond.soleField "FigureTill$Trace" "many") ∈ lw_all := lw_g (lw_at lw_m1 151 rfl) rfl
theorem q220 : (Jvm.Cond.superclass "FigureTill$Trace" "java/lang/Object") ∈ lw_all := lw_g (lw_at lw_m1 152 rfl) rfl
theorem q980 : (Jvm.Cond.instanceMethod ({ cls := "FigureTill$Trace", name := "ran", desc := "(I)V" } : Jvm.MethodName)) ∈ lw_all := lw_g (lw_at lw_m4 192 rfl) rfl
theorem q981 : (Jvm.Cond.selects "FigureTill$Trace" ({ cls := "FigureTill$Trace", name := "ran", desc := "(I)V" } : Jvm.MethodName) ({ cls := "FigureTill$Trace", name := "ran", desc := "(I)V" } : Jvm.MethodName)) ∈ lw_all := lw_g (lw_at lw_m4 193 rfl) rfl
theorem q982 : (Jvm.Cond.code ({ cls := "FigureTill$Trace", name := "ran", desc := "(I)V" } : Jvm.MethodName) prog_18_method_2_code (2 : Nat) (Option.none : Option Jvm.ClassFile.FieldType)) ∈ lw_all := lw_g (lw_at lw_m4 194 rfl) rfl
theorem in_X4 : ∀ w ∈ wsX40, w ∈ lw_all := lw_in wsX40 [216, 218] (by decide +kernel) (by decide +kernel)
/-! FigureTill$Eyes -/
def RX5 : String := "FigureTill$Eyes"
def TX5 : u_T := fun k => match k with
  | _ => ("FigureTill$Eyes", "this$0", "LFigureTill;", true)
def tyX5 : Nat → FieldType := fun k => match k with
  | _ => .object "FigureTill"
abbrev wsX50 : List Cond := u_ws RX5 TX5 1
theorem nmX5 : ∀ a, a < 1 → ∀ b, b < 1 → a ≠ b → (TX5 a).2.1 ≠ (TX5 b).2.1 := by decide +kernel
theorem tyX5_ok : ∀ k, k < 1 → parseFieldDescriptor (TX5 k).2.2.1 = some (tyX5 k) := by decide +kernel
abbrev cX5_init : ByteArray := prog_4_method_1_code
def yX5_init : MethodName := ⟨RX5, "<init>", "(LFigureTill;)V"⟩
def dkwX5_init_0 : List UInt8 := [42, 43, 181, 0, 1, 42, 183, 0, 7, 177]
abbrev dktX5_init_0 : List UInt8 := dkwX5_init_0 ++ []
theorem dksX5_init_0 : cX5_init.data.toList.drop 0 = dktX5_init_0 := by decide +kernel
theorem dX5_init_0 : decode cX5_init 0 = .ok (.aload_n 0, 1) := dk_42 (dk_at dksX5_init_0 0 rfl rfl)
theorem dX5_init_1 : decode cX5_init 1 = .ok (.aload_n 1, 1) := dk_43 (dk_at dksX5_init_0 1 rfl rfl)
theorem dX5_init_2 : decode cX5_init 2 = .ok (.putfield 1, 3) := dk_181 0 1 (dk_at dksX5_init_0 2 rfl rfl)
theorem dX5_init_5 : decode cX5_init 5 = .ok (.aload_n 0, 1) := dk_42 (dk_at dksX5_init_0 5 rfl rfl)
theorem dX5_init_6 : decode cX5_init 6 = .ok (.invokespecial 7, 3) := dk_183 0 7 (dk_at dksX5_init_0 6 rfl rfl)
theorem dX5_init_9 : decode cX5_init 9 = .ok (.return_, 1) := dk_177 (dk_at dksX5_init_0 9 rfl rfl)
abbrev cX5_told : ByteArray := prog_4_method_2_code
def yX5_told : MethodName := ⟨RX5, "told", "(IIII)I"⟩
def dkwX5_told_2 : List UInt8 := [29, 79, 42, 180, 0, 1, 42, 180, 0, 1, 180, 0, 13, 180, 0, 19, 3, 50, 182, 0, 29, 172]
abbrev dktX5_told_2 : List UInt8 := dkwX5_told_2 ++ []
def dkwX5_told_1 : List UInt8 := [180, 0, 25, 3, 27, 79, 42, 180, 0, 1, 180, 0, 25, 4, 28, 79, 42, 180, 0, 1, 180, 0, 25, 5]
abbrev dktX5_told_1 : List UInt8 := dkwX5_told_1 ++ dktX5_told_2
def dkwX5_told_0 : List UInt8 := [42, 180, 0, 1, 180, 0, 13, 180, 0, 19, 3, 50, 199, 0, 6, 21, 4, 172, 42, 180, 0, 1]
abbrev dktX5_told_0 : List UInt8 := dkwX5_told_0 ++ dktX5_told_1
theorem dksX5_told_0 : cX5_told.data.toList.drop 0 = dktX5_told_0 := by decide +kernel
theorem dksX5_told_1 : cX5_told.data.toList.drop 22 = dktX5_told_1 := dk_seg dksX5_told_0 22 rfl rfl
theorem dksX5_told_2 : cX5_told.data.toList.drop 46 = dktX5_told_2 := dk_seg dksX5_told_1 24 rfl rfl
theorem dX5_told_0 : decode cX5_told 0 = .ok (.aload_n 0, 1) := dk_42 (dk_at dksX5_told_0 0 rfl rfl)
theorem dX5_told_1 : decode cX5_told 1 = .ok (.getfield 1, 3) := dk_180 0 1 (dk_at dksX5_told_0 1 rfl rfl)
theorem dX5_told_4 : decode cX5_told 4 = .ok (.getfield 13, 3) := dk_180 0 13 (dk_at dksX5_told_0 4 rfl rfl)
theorem dX5_told_7 : decode cX5_told 7 = .ok (.getfield 19, 3) := dk_180 0 19 (dk_at dksX5_told_0 7 rfl rfl)
theorem dX5_told_10 : decode cX5_told 10 = .ok (.iconst 0, 1) := dk_3 (dk_at dksX5_told_0 10 rfl rfl)
theorem dX5_told_11 : decode cX5_told 11 = .ok (.aaload, 1) := dk_50 (dk_at dksX5_told_0 11 rfl rfl)
theorem dX5_told_12 : decode cX5_told 12 = .ok (.ifnonnull 6, 3) := dk_199 0 6 (dk_at dksX5_told_0 12 rfl rfl)
theorem dX5_told_15 : decode cX5_told 15 = .ok (.iload 4, 2) := dk_21 4 (dk_at dksX5_told_0 15 rfl rfl)
theorem dX5_told_17 : decode cX5_told 17 = .ok (.ireturn, 1) := dk_172 (dk_at dksX5_told_0 17 rfl rfl)
theorem dX5_told_18 : decode cX5_told 18 = .ok (.aload_n 0, 1) := dk_42 (dk_at dksX5_told_0 18 rfl rfl)
theorem dX5_told_19 : decode cX5_told 19 = .ok (.getfield 1, 3) := dk_180 0 1 (dk_at dksX5_told_0 19 rfl rfl)
theorem dX5_told_22 : decode cX5_told 22 = .ok (.getfield 25, 3) := dk_180 0 25 (dk_at dksX5_told_1 0 rfl rfl)
theorem dX5_told_25 : decode cX5_told 25 = .ok (.iconst 0, 1) := dk_3 (dk_at dksX5_told_1 3 rfl rfl)
theorem dX5_told_26 : decode cX5_told 26 = .ok (.iload_n 1, 1) := dk_27 (dk_at dksX5_told_1 4 rfl rfl)
theorem dX5_told_27 : decode cX5_told 27 = .ok (.iastore, 1) := dk_79 (dk_at dksX5_told_1 5 rfl rfl)
theorem dX5_told_28 : decode cX5_told 28 = .ok (.aload_n 0, 1) := dk_42 (dk_at dksX5_told_1 6 rfl rfl)
theorem dX5_told_29 : decode cX5_told 29 = .ok (.getfield 1, 3) := dk_180 0 1 (dk_at dksX5_told_1 7 rfl rfl)
theorem dX5_told_32 : decode cX5_told 32 = .ok (.getfield 25, 3) := dk_180 0 25 (dk_at dksX5_told_1 10 rfl rfl)
theorem dX5_told_35 : decode cX5_told 35 = .ok (.iconst 1, 1) := dk_4 (dk_at dksX5_told_1 13 rfl rfl)
theorem dX5_told_36 : decode cX5_told 36 = .ok (.iload_n 2, 1) := dk_28 (dk_at dksX5_told_1 14 rfl rfl)
theorem dX5_told_37 : decode cX5_told 37 = .ok (.iastore, 1) := dk_79 (dk_at dksX5_told_1 15 rfl rfl)
theorem dX5_told_38 : decode cX5_told 38 = .ok (.aload_n 0, 1) := dk_42 (dk_at dksX5_told_1 16 rfl rfl)
theorem dX5_told_39 : decode cX5_told 39 = .ok (.getfield 1, 3) := dk_180 0 1 (dk_at dksX5_told_1 17 rfl rfl)
theorem dX5_told_42 : decode cX5_told 42 = .ok (.getfield 25, 3) := dk_180 0 25 (dk_at dksX5_told_1 20 rfl rfl)
theorem dX5_told_45 : decode cX5_told 45 = .ok (.iconst 2, 1) := dk_5 (dk_at dksX5_told_1 23 rfl rfl)
theorem dX5_told_46 : decode cX5_told 46 = .ok (.iload_n 3, 1) := dk_29 (dk_at dksX5_told_2 0 rfl rfl)
theorem dX5_told_47 : decode cX5_told 47 = .ok (.iastore, 1) := dk_79 (dk_at dksX5_told_2 1 rfl rfl)
theorem dX5_told_48 : decode cX5_told 48 = .ok (.aload_n 0, 1) := dk_42 (dk_at dksX5_told_2 2 rfl rfl)
theorem dX5_told_49 : decode cX5_told 49 = .ok (.getfield 1, 3) := dk_180 0 1 (dk_at dksX5_told_2 3 rfl rfl)
theorem dX5_told_52 : decode cX5_told 52 = .ok (.aload_n 0, 1) := dk_42 (dk_at dksX5_told_2 6 rfl rfl)
theorem dX5_told_53 : decode cX5_told 53 = .ok (.getfield 1, 3) := dk_180 0 1 (dk_at dksX5_told_2 7 rfl rfl)
theorem dX5_told_56 : decode cX5_told 56 = .ok (.getfield 13, 3) := dk_180 0 13 (dk_at dksX5_told_2 10 rfl rfl)
theorem dX5_told_59 : decode cX5_told 59 = .ok (.getfield 19, 3) := dk_180 0 19 (dk_at dksX5_told_2 13 rfl rfl)
theorem dX5_told_62 : decode cX5_told 62 = .ok (.iconst 0, 1) := dk_3 (dk_at dksX5_told_2 16 rfl rfl)
theorem dX5_told_63 : decode cX5_told 63 = .ok (.aaload, 1) := dk_50 (dk_at dksX5_told_2 17 rfl rfl)
theorem dX5_told_64 : decode cX5_told 64 = .ok (.invokevirtual 29, 3) := dk_182 0 29 (dk_at dksX5_told_2 18 rfl rfl)
theorem dX5_told_67 : decode cX5_told 67 = .ok (.ireturn, 1) := dk_172 (dk_at dksX5_told_2 21 rfl rfl)
theorem q74 : (Jvm.Cond.initialized "FigureTill$Eyes") ∈ lw_all := lw_g (lw_at lw_m1 6 rfl) rfl
theorem q173 : (Jvm.Cond.fieldLinkNest "FigureTill$Eyes" (19 : Nat) "FigureTill$House" "texts" "[LFigureTill$Text;" "FigureTill") ∈ lw_tbl := lw_at lw_m1 105 rfl
theorem q224 : (Jvm.Cond.instantiable "FigureTill$Eyes" (1 : Nat)) ∈ lw_all := lw_g (lw_at lw_m1 156 rfl) rfl
theorem q226 : (Jvm.Cond.instanceMethod ({ cls := "FigureTill$Eyes", name := "<init>", desc := "(LFigureTill;)V" } : Jvm.MethodName)) ∈ lw_all := lw_g (lw_at lw_m1 158 rfl) rfl
theorem q227 : (Jvm.Cond.code ({ cls := "FigureTill$Eyes", name := "<init>", desc := "(LFigureTill;)V" } : Jvm.MethodName) prog_4_method_1_code (2 : Nat) (Option.none : Option Jvm.ClassFile.FieldType)) ∈ lw_all := lw_g (lw_at lw_m1 159 rfl) rfl
theorem q228 : (Jvm.Cond.methodLink "FigureTill$Eyes" (7 : Nat) ({ cls := "java/lang/Object", name := "<init>", desc := "()V" } : Jvm.MethodName)) ∈ lw_all := lw_g (lw_at lw_m1 160 rfl) rfl
theorem q229 : (Jvm.Cond.fieldLink "FigureTill$Eyes" (1 : Nat) "FigureTill$Eyes" "this$0" "LFigureTill;") ∈ lw_all := lw_g (lw_at lw_m1 161 rfl) rfl
theorem q230 : (Jvm.Cond.laysFinal "FigureTill$Eyes" "FigureTill$Eyes" "this$0" "LFigureTill;") ∈ lw_all := lw_g (lw_at lw_m1 162 rfl) rfl
theorem q231 : (Jvm.Cond.soleField "FigureTill$Eyes" "this$0") ∈ lw_all := lw_g (lw_at lw_m1 163 rfl) rfl
theorem q232 : (Jvm.Cond.superclass "FigureTill$Eyes" "java/lang/Object") ∈ lw_all := lw_g (lw_at lw_m1 164 rfl) rfl
theorem q234 : (Jvm.Cond.fieldLinkNest "FigureTill$Eyes" (25 : Nat) "FigureTill" "named" "[I" "FigureTill") ∈ lw_tbl := lw_at lw_m1 166 rfl
theorem q236 : (Jvm.Cond.fieldLinkNest "FigureTill$Eyes" (13 : Nat) "FigureTill" "house" "LFigureTill$House;" "FigureTill") ∈ lw_tbl := lw_at lw_m1 168 rfl
theorem q521 : (Jvm.Cond.castable "FigureTill$Eyes" "FigureTill$Sees") ∈ lw_tbl := lw_at lw_m2 213 rfl
theorem q522 : (Jvm.Cond.selects "FigureTill$Eyes" ({ cls := "FigureTill$Sees", name := "told", desc := "(IIII)I" } : Jvm.MethodName) ({ cls := "FigureTill$Eyes", name := "told", desc := "(IIII)I" } : Jvm.MethodName)) ∈ lw_all := lw_g (lw_at lw_m2 214 rfl) rfl
theorem q523 : (Jvm.Cond.unhidden "FigureTill$Eyes" "told" "(IIII)I") ∈ lw_tbl := lw_at lw_m2 215 rfl
theorem q524 : (Jvm.Cond.instanceMethod ({ cls := "FigureTill$Eyes", name := "told", desc := "(IIII)I" } : Jvm.MethodName)) ∈ lw_all := lw_g (lw_at lw_m2 216 rfl) rfl
theorem q525 : (Jvm.Cond.publicMethod ({ cls := "FigureTill$Eyes", name := "told", desc := "(IIII)I" } : Jvm.MethodName)) ∈ lw_tbl := lw_at lw_m2 217 rfl
theorem q526 : (Jvm.Cond.code ({ cls := "FigureTill$Eyes", name := "told", desc := "(IIII)I" } : Jvm.MethodName) prog_4_method_2_code (5 : Nat) (Option.some Jvm.ClassFile.FieldType.int)) ∈ lw_all := lw_g (lw_at lw_m2 218 rfl) rfl
theorem q527 : (Jvm.Cond.methodLinkNest "FigureTill$Eyes" (29 : Nat) ({ cls := "FigureTill", name := "worked", desc := "(LFigureTill$Text;)I" } : Jvm.MethodName) "FigureTill") ∈ lw_tbl := lw_at lw_m2 219 rfl
theorem in_X5 : ∀ w ∈ wsX50, w ∈ lw_all := lw_in wsX50 [230] (by decide +kernel) (by decide +kernel)
/-! FigureTill$Last -/
def RX7 : String := "FigureTill$Last"
def TX7 : u_T := fun k => match k with
  | 0 => ("FigureTill$Till", "number", "I", true)
  | _ => ("FigureTill$Till", "m", "I", true)
def tyX7 : Nat → FieldType := fun k => match k with
  | 0 => .int
  | _ => .int
abbrev wsX70 : List Cond := u_ws RX7 TX7 2
theorem nmX7 : ∀ a, a < 2 → ∀ b, b < 2 → a ≠ b → (TX7 a).2.1 ≠ (TX7 b).2.1 := by decide +kernel
theorem tyX7_ok : ∀ k, k < 2 → parseFieldDescriptor (TX7 k).2.2.1 = some (tyX7 k) := by decide +kernel
abbrev cX7_kind : ByteArray := prog_8_method_2_code
def yX7_kind : MethodName := ⟨RX7, "kind", "()I"⟩
def dkwX7_kind_0 : List UInt8 := [42, 183, 0, 9, 4, 96, 172]
abbrev dktX7_kind_0 : List UInt8 := dkwX7_kind_0 ++ []
theorem dksX7_kind_0 : cX7_kind.data.toList.drop 0 = dktX7_kind_0 := by decide +kernel
theorem dX7_kind_0 : decode cX7_kind 0 = .ok (.aload_n 0, 1) := dk_42 (dk_at dksX7_kind_0 0 rfl rfl)
theorem dX7_kind_1 : decode cX7_kind 1 = .ok (.invokespecial 9, 3) := dk_183 0 9 (dk_at dksX7_kind_0 1 rfl rfl)
theorem dX7_kind_4 : decode cX7_kind 4 = .ok (.iconst 1, 1) := dk_4 (dk_at dksX7_kind_0 4 rfl rfl)
theorem dX7_kind_5 : decode cX7_kind 5 = .ok (.iadd, 1) := dk_96 (dk_at dksX7_kind_0 5 rfl rfl)
theorem dX7_kind_6 : decode cX7_kind 6 = .ok (.ireturn, 1) := dk_172 (dk_at dksX7_kind_0 6 rfl rfl)
abbrev cX7_init : ByteArray := prog_8_method_1_code
def yX7_init : MethodName := ⟨RX7, "<init>", "(II)V"⟩
def dkwX7_init_0 : List UInt8 := [42, 27, 28, 183, 0, 3, 177]
abbrev dktX7_init_0 : List UInt8 := dkwX7_init_0 ++ []
theorem dksX7_init_0 : cX7_init.data.toList.drop 0 = dktX7_init_0 := by decide +kernel
theorem dX7_init_0 : decode cX7_init 0 = .ok (.aload_n 0, 1) := dk_42 (dk_at dksX7_init_0 0 rfl rfl)
theorem dX7_init_1 : decode cX7_init 1 = .ok (.iload_n 1, 1) := dk_27 (dk_at dksX7_init_0 1 rfl rfl)
theorem dX7_init_2 : decode cX7_init 2 = .ok (.iload_n 2, 1) := dk_28 (dk_at dksX7_init_0 2 rfl rfl)
theorem dX7_init_3 : decode cX7_init 3 = .ok (.invokespecial 3, 3) := dk_183 0 3 (dk_at dksX7_init_0 3 rfl rfl)
theorem dX7_init_6 : decode cX7_init 6 = .ok (.return_, 1) := dk_177 (dk_at dksX7_init_0 6 rfl rfl)
abbrev cX7_pays : ByteArray := prog_8_method_3_code
def yX7_pays : MethodName := ⟨RX7, "pays", "(LFigureTill$Sees;II)I"⟩
def dkwX7_pays_0 : List UInt8 := [28, 16, 10, 112, 172]
abbrev dktX7_pays_0 : List UInt8 := dkwX7_pays_0 ++ []
theorem dksX7_pays_0 : cX7_pays.data.toList.drop 0 = dktX7_pays_0 := by decide +kernel
theorem dX7_pays_0 : decode cX7_pays 0 = .ok (.iload_n 2, 1) := dk_28 (dk_at dksX7_pays_0 0 rfl rfl)
theorem dX7_pays_1 : decode cX7_pays 1 = .ok (.bipush 10, 2) := dk_16 10 (dk_at dksX7_pays_0 1 rfl rfl)
theorem dX7_pays_3 : decode cX7_pays 3 = .ok (.irem, 1) := dk_112 (dk_at dksX7_pays_0 3 rfl rfl)
theorem dX7_pays_4 : decode cX7_pays 4 = .ok (.ireturn, 1) := dk_172 (dk_at dksX7_pays_0 4 rfl rfl)
abbrev cX7_adds : ByteArray := prog_8_method_4_code
def yX7_adds : MethodName := ⟨RX7, "adds", "(ILFigureTill$Trace;)I"⟩
def dkwX7_adds_0 : List UInt8 := [44, 16, 20, 182, 0, 13, 42, 27, 44, 183, 0, 19, 16, 9, 100, 172]
abbrev dktX7_adds_0 : List UInt8 := dkwX7_adds_0 ++ []
theorem dksX7_adds_0 : cX7_adds.data.toList.drop 0 = dktX7_adds_0 := by decide +kernel
theorem dX7_adds_0 : decode cX7_adds 0 = .ok (.aload_n 2, 1) := dk_44 (dk_at dksX7_adds_0 0 rfl rfl)
theorem dX7_adds_1 : decode cX7_adds 1 = .ok (.bipush 20, 2) := dk_16 20 (dk_at dksX7_adds_0 1 rfl rfl)
theorem dX7_adds_3 : decode cX7_adds 3 = .ok (.invokevirtual 13, 3) := dk_182 0 13 (dk_at dksX7_adds_0 3 rfl rfl)
theorem dX7_adds_6 : decode cX7_adds 6 = .ok (.aload_n 0, 1) := dk_42 (dk_at dksX7_adds_0 6 rfl rfl)
theorem dX7_adds_7 : decode cX7_adds 7 = .ok (.iload_n 1, 1) := dk_27 (dk_at dksX7_adds_0 7 rfl rfl)
theorem dX7_adds_8 : decode cX7_adds 8 = .ok (.aload_n 2, 1) := dk_44 (dk_at dksX7_adds_0 8 rfl rfl)
theorem dX7_adds_9 : decode cX7_adds 9 = .ok (.invokespecial 19, 3) := dk_183 0 19 (dk_at dksX7_adds_0 9 rfl rfl)
theorem dX7_adds_12 : decode cX7_adds 12 = .ok (.bipush 9, 2) := dk_16 9 (dk_at dksX7_adds_0 12 rfl rfl)
theorem dX7_adds_14 : decode cX7_adds 14 = .ok (.isub, 1) := dk_100 (dk_at dksX7_adds_0 14 rfl rfl)
theorem dX7_adds_15 : decode cX7_adds 15 = .ok (.ireturn, 1) := dk_172 (dk_at dksX7_adds_0 15 rfl rfl)
abbrev cX7_parts : ByteArray := prog_8_method_5_code
def yX7_parts : MethodName := ⟨RX7, "parts", "(ILFigureTill$Trace;)I"⟩
def dkwX7_parts_0 : List UInt8 := [44, 16, 21, 182, 0, 13, 42, 27, 44, 183, 0, 23, 62, 29, 42, 4, 44, 182, 0, 26, 96, 172]
abbrev dktX7_parts_0 : List UInt8 := dkwX7_parts_0 ++ []
theorem dksX7_parts_0 : cX7_parts.data.toList.drop 0 = dktX7_parts_0 := by decide +kernel
theorem dX7_parts_0 : decode cX7_parts 0 = .ok (.aload_n 2, 1) := dk_44 (dk_at dksX7_parts_0 0 rfl rfl)
theorem dX7_parts_1 : decode cX7_parts 1 = .ok (.bipush 21, 2) := dk_16 21 (dk_at dksX7_parts_0 1 rfl rfl)
theorem dX7_parts_3 : decode cX7_parts 3 = .ok (.invokevirtual 13, 3) := dk_182 0 13 (dk_at dksX7_parts_0 3 rfl rfl)
theorem dX7_parts_6 : decode cX7_parts 6 = .ok (.aload_n 0, 1) := dk_42 (dk_at dksX7_parts_0 6 rfl rfl)
theorem dX7_parts_7 : decode cX7_parts 7 = .ok (.iload_n 1, 1) := dk_27 (dk_at dksX7_parts_0 7 rfl rfl)
theorem dX7_parts_8 : decode cX7_parts 8 = .ok (.aload_n 2, 1) := dk_44 (dk_at dksX7_parts_0 8 rfl rfl)
theorem dX7_parts_9 : decode cX7_parts 9 = .ok (.invokespecial 23, 3) := dk_183 0 23 (dk_at dksX7_parts_0 9 rfl rfl)
theorem dX7_parts_12 : decode cX7_parts 12 = .ok (.istore_n 3, 1) := dk_62 (dk_at dksX7_parts_0 12 rfl rfl)
theorem dX7_parts_13 : decode cX7_parts 13 = .ok (.iload_n 3, 1) := dk_29 (dk_at dksX7_parts_0 13 rfl rfl)
theorem dX7_parts_14 : decode cX7_parts 14 = .ok (.aload_n 0, 1) := dk_42 (dk_at dksX7_parts_0 14 rfl rfl)
theorem dX7_parts_15 : decode cX7_parts 15 = .ok (.iconst 1, 1) := dk_4 (dk_at dksX7_parts_0 15 rfl rfl)
theorem dX7_parts_16 : decode cX7_parts 16 = .ok (.aload_n 2, 1) := dk_44 (dk_at dksX7_parts_0 16 rfl rfl)
theorem dX7_parts_17 : decode cX7_parts 17 = .ok (.invokevirtual 26, 3) := dk_182 0 26 (dk_at dksX7_parts_0 17 rfl rfl)
theorem dX7_parts_20 : decode cX7_parts 20 = .ok (.iadd, 1) := dk_96 (dk_at dksX7_parts_0 20 rfl rfl)
theorem dX7_parts_21 : decode cX7_parts 21 = .ok (.ireturn, 1) := dk_172 (dk_at dksX7_parts_0 21 rfl rfl)
theorem q77 : (Jvm.Cond.initialized "FigureTill$Last") ∈ lw_all := lw_g (lw_at lw_m1 9 rfl) rfl
theorem q358 : (Jvm.Cond.instanceMethod ({ cls := "FigureTill$Last", name := "kind", desc := "()I" } : Jvm.MethodName)) ∈ lw_all := lw_g (lw_at lw_m2 50 rfl) rfl
theorem q359 : (Jvm.Cond.code ({ cls := "FigureTill$Last", name := "kind", desc := "()I" } : Jvm.MethodName) prog_8_method_2_code (1 : Nat) (Option.some Jvm.ClassFile.FieldType.int)) ∈ lw_all := lw_g (lw_at lw_m2 51 rfl) rfl
theorem q360 : (Jvm.Cond.methodLink "FigureTill$Last" (9 : Nat) ({ cls := "FigureTill$Till", name := "kind", desc := "()I" } : Jvm.MethodName)) ∈ lw_all := lw_g (lw_at lw_m2 52 rfl) rfl
theorem q361 : (Jvm.Cond.superclass "FigureTill$Last" "FigureTill$Till") ∈ lw_all := lw_g (lw_at lw_m2 53 rfl) rfl
theorem q362 : (Jvm.Cond.selects "FigureTill$Last" ({ cls := "FigureTill$Till", name := "kind", desc := "()I" } : Jvm.MethodName) ({ cls := "FigureTill$Last", name := "kind", desc := "()I" } : Jvm.MethodName)) ∈ lw_all := lw_g (lw_at lw_m2 54 rfl) rfl
theorem q382 : (Jvm.Cond.instantiable "FigureTill$Last" (2 : Nat)) ∈ lw_all := lw_g (lw_at lw_m2 74 rfl) rfl
theorem q384 : (Jvm.Cond.instanceMethod ({ cls := "FigureTill$Last", name := "<init>", desc := "(II)V" } : Jvm.MethodName)) ∈ lw_all := lw_g (lw_at lw_m2 76 rfl) rfl
theorem q385 : (Jvm.Cond.code ({ cls := "FigureTill$Last", name := "<init>", desc := "(II)V" } : Jvm.MethodName) prog_8_method_1_code (3 : Nat) (Option.none : Option Jvm.ClassFile.FieldType)) ∈ lw_all := lw_g (lw_at lw_m2 77 rfl) rfl
theorem q386 : (Jvm.Cond.methodLink "FigureTill$Last" (3 : Nat) ({ cls := "FigureTill$Till", name := "<init>", desc := "(II)V" } : Jvm.MethodName)) ∈ lw_all := lw_g (lw_at lw_m2 78 rfl) rfl
theorem q387 : (Jvm.Cond.laysFinal "FigureTill$Last" "FigureTill$Till" "number" "I") ∈ lw_all := lw_g (lw_at lw_m2 79 rfl) rfl
theorem q388 : (Jvm.Cond.laysFinal "FigureTill$Last" "FigureTill$Till" "m" "I") ∈ lw_all := lw_g (lw_at lw_m2 80 rfl) rfl
theorem q479 : (Jvm.Cond.instanceMethod ({ cls := "FigureTill$Last", name := "pays", desc := "(LFigureTill$Sees;II)I" } : Jvm.MethodName)) ∈ lw_all := lw_g (lw_at lw_m2 171 rfl) rfl
theorem q480 : (Jvm.Cond.code ({ cls := "FigureTill$Last", name := "pays", desc := "(LFigureTill$Sees;II)I" } : Jvm.MethodName) prog_8_method_3_code (4 : Nat) (Option.some Jvm.ClassFile.FieldType.int)) ∈ lw_all := lw_g (lw_at lw_m2 172 rfl) rfl
theorem q482 : (Jvm.Cond.castable "FigureTill$Last" "FigureTill$Pays") ∈ lw_tbl := lw_at lw_m2 174 rfl
theorem q483 : (Jvm.Cond.selects "FigureTill$Last" ({ cls := "FigureTill$Pays", name := "pays", desc := "(LFigureTill$Sees;II)I" } : Jvm.MethodName) ({ cls := "FigureTill$Last", name := "pays", desc := "(LFigureTill$Sees;II)I" } : Jvm.MethodName)) ∈ lw_all := lw_g (lw_at lw_m2 175 rfl) rfl
theorem q484 : (Jvm.Cond.unhidden "FigureTill$Last" "pays" "(LFigureTill$Sees;II)I") ∈ lw_tbl := lw_at lw_m2 176 rfl
theorem q485 : (Jvm.Cond.publicMethod ({ cls := "FigureTill$Last", name := "pays", desc := "(LFigureTill$Sees;II)I" } : Jvm.MethodName)) ∈ lw_tbl := lw_at lw_m2 177 rfl
theorem q984 : (Jvm.Cond.instanceMethod ({ cls := "FigureTill$Last", name := "adds", desc := "(ILFigureTill$Trace;)I" } : Jvm.MethodName)) ∈ lw_all := lw_g (lw_at lw_m4 196 rfl) rfl
theorem q985 : (Jvm.Cond.code ({ cls := "FigureTill$Last", name := "adds", desc := "(ILFigureTill$Trace;)I" } : Jvm.MethodName) prog_8_method_4_code (3 : Nat) (Option.some Jvm.ClassFile.FieldType.int)) ∈ lw_all := lw_g (lw_at lw_m4 197 rfl) rfl
theorem q986 : (Jvm.Cond.methodLink "FigureTill$Last" (13 : Nat) ({ cls := "FigureTill$Trace", name := "ran", desc := "(I)V" } : Jvm.MethodName)) ∈ lw_all := lw_g (lw_at lw_m4 198 rfl) rfl
theorem q987 : (Jvm.Cond.methodLink "FigureTill$Last" (19 : Nat) ({ cls := "FigureTill$Till", name := "adds", desc := "(ILFigureTill$Trace;)I" } : Jvm.MethodName)) ∈ lw_all := lw_g (lw_at lw_m4 199 rfl) rfl
theorem q990 : (Jvm.Cond.selects "FigureTill$Last" ({ cls := "FigureTill$Till", name := "adds", desc := "(ILFigureTill$Trace;)I" } : Jvm.MethodName) ({ cls := "FigureTill$Last", name := "adds", desc := "(ILFigureTill$Trace;)I" } : Jvm.MethodName)) ∈ lw_all := lw_g (lw_at lw_m4 202 rfl) rfl
theorem q1000 : (Jvm.Cond.unhidden "FigureTill$Last" "comes" "(ILFigureTill$Trace;)I") ∈ lw_tbl := lw_at lw_m4 212 rfl
theorem q1024 : (Jvm.Cond.castable "FigureTill$Last" "FigureTill$Comes") ∈ lw_tbl := lw_at lw_m4 236 rfl
theorem q1025 : (Jvm.Cond.selects "FigureTill$Last" ({ cls := "FigureTill$Comes", name := "adds", desc := "(ILFigureTill$Trace;)I" } : Jvm.MethodName) ({ cls := "FigureTill$Last", name := "adds", desc := "(ILFigureTill$Trace;)I" } : Jvm.MethodName)) ∈ lw_all := lw_g (lw_at lw_m4 237 rfl) rfl
theorem q1026 : (Jvm.Cond.unhidden "FigureTill$Last" "adds" "(ILFigureTill$Trace;)I") ∈ lw_tbl := lw_at lw_m4 238 rfl
theorem q1027 : (Jvm.Cond.publicMethod ({ cls := "FigureTill$Last", name := "adds", desc := "(ILFigureTill$Trace;)I" } : Jvm.MethodName)) ∈ lw_tbl := lw_at lw_m4 239 rfl
theorem q1061 : (Jvm.Cond.sameMethod "FigureTill$Last" "FigureTill$Till" "gives" "(ILFigureTill$Trace;)I") ∈ lw_all := lw_g (lw_at lw_m5 33 rfl) rfl
theorem q1063 : (Jvm.Cond.selects "FigureTill$Last" ({ cls := "FigureTill$Till", name := "gives", desc := "(ILFigureTill$Trace;)I" } : Jvm.MethodName) ({ cls := "FigureTill$Till", name := "gives", desc := "(ILFigureTill$Trace;)I" } : Jvm.MethodName)) ∈ lw_all := lw_g (lw_at lw_m5 35 rfl) rfl
theorem q1073 : (Jvm.Cond.instanceMethod ({ cls := "FigureTill$Last", name := "parts", desc := "(ILFigureTill$Trace;)I" } : Jvm.MethodName)) ∈ lw_all := lw_g (lw_at lw_m5 45 rfl) rfl
theorem q1074 : (Jvm.Cond.code ({ cls := "FigureTill$Last", name := "parts", desc := "(ILFigureTill$Trace;)I" } : Jvm.MethodName) prog_8_method_5_code (4 : Nat) (Option.some Jvm.ClassFile.FieldType.int)) ∈ lw_all := lw_g (lw_at lw_m5 46 rfl) rfl
theorem q1075 : (Jvm.Cond.methodLink "FigureTill$Last" (23 : Nat) ({ cls := "FigureTill$Till", name := "parts", desc := "(ILFigureTill$Trace;)I" } : Jvm.MethodName)) ∈ lw_all := lw_g (lw_at lw_m5 47 rfl) rfl
theorem q1077 : (Jvm.Cond.selects "FigureTill$Last" ({ cls := "FigureTill$Till", name := "parts", desc := "(ILFigureTill$Trace;)I" } : Jvm.MethodName) ({ cls := "FigureTill$Last", name := "parts", desc := "(ILFigureTill$Trace;)I" } : Jvm.MethodName)) ∈ lw_all := lw_g (lw_at lw_m5 49 rfl) rfl
theorem q1588 : (Jvm.Cond.sameMethod "FigureTill$Last" "FigureTill$Last" "kind" "()I") ∈ lw_all := lw_g (lw_at lw_m7 80 rfl) rfl
theorem q1591 : (Jvm.Cond.sameMethod "FigureTill$Last" "FigureTill$Last" "pays" "(LFigureTill$Sees;II)I") ∈ lw_all := lw_g (lw_at lw_m7 83 rfl) rfl
theorem q1593 : (Jvm.Cond.sameMethod "FigureTill$Last" "FigureTill$Last" "adds" "(ILFigureTill$Trace;)I") ∈ lw_all := lw_g (lw_at lw_m7 85 rfl) rfl
theorem q1598 : (Jvm.Cond.castable "FigureTill$Last" "FigureTill$Till") ∈ lw_tbl := lw_at lw_m7 90 rfl
theorem in_X7 : ∀ w ∈ wsX70, w ∈ lw_all := lw_in wsX70 [387, 388] (by decide +kernel) (by decide +kernel)
/-! FigureTill$Root -/
def RX8 : String := "FigureTill$Root"
def TX8 : u_T := fun k => match k with
  | 0 => ("FigureTill$Till", "number", "I", true)
  | _ => ("FigureTill$Till", "m", "I", true)
def tyX8 : Nat → FieldType := fun k => match k with
  | 0 => .int
  | _ => .int
abbrev wsX80 : List Cond := u_ws RX8 TX8 2
theorem nmX8 : ∀ a, a < 2 → ∀ b, b < 2 → a ≠ b → (TX8 a).2.1 ≠ (TX8 b).2.1 := by decide +kernel
theorem tyX8_ok : ∀ k, k < 2 → parseFieldDescriptor (TX8 k).2.2.1 = some (tyX8 k) := by decide +kernel
abbrev cX8_kind : ByteArray := prog_12_method_2_code
def yX8_kind : MethodName := ⟨RX8, "kind", "()I"⟩
def dkwX8_kind_0 : List UInt8 := [42, 183, 0, 9, 5, 96, 172]
abbrev dktX8_kind_0 : List UInt8 := dkwX8_kind_0 ++ []
theorem dksX8_kind_0 : cX8_kind.data.toList.drop 0 = dktX8_kind_0 := by decide +kernel
theorem dX8_kind_0 : decode cX8_kind 0 = .ok (.aload_n 0, 1) := dk_42 (dk_at dksX8_kind_0 0 rfl rfl)
theorem dX8_kind_1 : decode cX8_kind 1 = .ok (.invokespecial 9, 3) := dk_183 0 9 (dk_at dksX8_kind_0 1 rfl rfl)
theorem dX8_kind_4 : decode cX8_kind 4 = .ok (.iconst 2, 1) := dk_5 (dk_at dksX8_kind_0 4 rfl rfl)
theorem dX8_kind_5 : decode cX8_kind 5 = .ok (.iadd, 1) := dk_96 (dk_at dksX8_kind_0 5 rfl rfl)
theorem dX8_kind_6 : decode cX8_kind 6 = .ok (.ireturn, 1) := dk_172 (dk_at dksX8_kind_0 6 rfl rfl)
abbrev cX8_init : ByteArray := prog_12_method_1_code
def yX8_init : MethodName := ⟨RX8, "<init>", "(II)V"⟩
def dkwX8_init_0 : List UInt8 := [42, 27, 28, 183, 0, 3, 177]
abbrev dktX8_init_0 : List UInt8 := dkwX8_init_0 ++ []
theorem dksX8_init_0 : cX8_init.data.toList.drop 0 = dktX8_init_0 := by decide +kernel
theorem dX8_init_0 : decode cX8_init 0 = .ok (.aload_n 0, 1) := dk_42 (dk_at dksX8_init_0 0 rfl rfl)
theorem dX8_init_1 : decode cX8_init 1 = .ok (.iload_n 1, 1) := dk_27 (dk_at dksX8_init_0 1 rfl rfl)
theorem dX8_init_2 : decode cX8_init 2 = .ok (.iload_n 2, 1) := dk_28 (dk_at dksX8_init_0 2 rfl rfl)
theorem dX8_init_3 : decode cX8_init 3 = .ok (.invokespecial 3, 3) := dk_183 0 3 (dk_at dksX8_init_0 3 rfl rfl)
theorem dX8_init_6 : decode cX8_init 6 = .ok (.return_, 1) := dk_177 (dk_at dksX8_init_0 6 rfl rfl)
abbrev cX8_pays : ByteArray := prog_12_method_4_code
def yX8_pays : MethodName := ⟨RX8, "pays", "(LFigureTill$Sees;II)I"⟩
def dkwX8_pays_0 : List UInt8 := [28, 42, 182, 0, 13, 184, 0, 18, 172]
abbrev dktX8_pays_0 : List UInt8 := dkwX8_pays_0 ++ []
theorem dksX8_pays_0 : cX8_pays.data.toList.drop 0 = dktX8_pays_0 := by decide +kernel
theorem dX8_pays_0 : decode cX8_pays 0 = .ok (.iload_n 2, 1) := dk_28 (dk_at dksX8_pays_0 0 rfl rfl)
theorem dX8_pays_1 : decode cX8_pays 1 = .ok (.aload_n 0, 1) := dk_42 (dk_at dksX8_pays_0 1 rfl rfl)
theorem dX8_pays_2 : decode cX8_pays 2 = .ok (.invokevirtual 13, 3) := dk_182 0 13 (dk_at dksX8_pays_0 2 rfl rfl)
theorem dX8_pays_5 : decode cX8_pays 5 = .ok (.invokestatic 18, 3) := dk_184 0 18 (dk_at dksX8_pays_0 5 rfl rfl)
theorem dX8_pays_8 : decode cX8_pays 8 = .ok (.ireturn, 1) := dk_172 (dk_at dksX8_pays_0 8 rfl rfl)
abbrev cX8_base : ByteArray := prog_12_method_3_code
def yX8_base : MethodName := ⟨RX8, "base", "()I"⟩
theorem dX8_base_0 : decode cX8_base 0 = .ok (.bipush 10, 2) := by decide +kernel
theorem dX8_base_2 : decode cX8_base 2 = .ok (.ireturn, 1) := by decide +kernel
abbrev cX8_comes : ByteArray := prog_12_method_5_code
def yX8_comes : MethodName := ⟨RX8, "comes", "(ILFigureTill$Trace;)I"⟩
def dkwX8_comes_0 : List UInt8 := [44, 16, 30, 182, 0, 22, 3, 42, 27, 44, 183, 0, 28, 100, 172]
abbrev dktX8_comes_0 : List UInt8 := dkwX8_comes_0 ++ []
theorem dksX8_comes_0 : cX8_comes.data.toList.drop 0 = dktX8_comes_0 := by decide +kernel
theorem dX8_comes_0 : decode cX8_comes 0 = .ok (.aload_n 2, 1) := dk_44 (dk_at dksX8_comes_0 0 rfl rfl)
theorem dX8_comes_1 : decode cX8_comes 1 = .ok (.bipush 30, 2) := dk_16 30 (dk_at dksX8_comes_0 1 rfl rfl)
theorem dX8_comes_3 : decode cX8_comes 3 = .ok (.invokevirtual 22, 3) := dk_182 0 22 (dk_at dksX8_comes_0 3 rfl rfl)
theorem dX8_comes_6 : decode cX8_comes 6 = .ok (.iconst 0, 1) := dk_3 (dk_at dksX8_comes_0 6 rfl rfl)
theorem dX8_comes_7 : decode cX8_comes 7 = .ok (.aload_n 0, 1) := dk_42 (dk_at dksX8_comes_0 7 rfl rfl)
theorem dX8_comes_8 : decode cX8_comes 8 = .ok (.iload_n 1, 1) := dk_27 (dk_at dksX8_comes_0 8 rfl rfl)
theorem dX8_comes_9 : decode cX8_comes 9 = .ok (.aload_n 2, 1) := dk_44 (dk_at dksX8_comes_0 9 rfl rfl)
theorem dX8_comes_10 : decode cX8_comes 10 = .ok (.invokespecial 28, 3) := dk_183 0 28 (dk_at dksX8_comes_0 10 rfl rfl)
theorem dX8_comes_13 : decode cX8_comes 13 = .ok (.isub, 1) := dk_100 (dk_at dksX8_comes_0 13 rfl rfl)
theorem dX8_comes_14 : decode cX8_comes 14 = .ok (.ireturn, 1) := dk_172 (dk_at dksX8_comes_0 14 rfl rfl)
theorem q78 : (Jvm.Cond.initialized "FigureTill$Root") ∈ lw_all := lw_g (lw_at lw_m1 10 rfl) rfl
theorem q368 : (Jvm.Cond.instanceMethod ({ cls := "FigureTill$Root", name := "kind", desc := "()I" } : Jvm.MethodName)) ∈ lw_all := lw_g (lw_at lw_m2 60 rfl) rfl
theorem q369 : (Jvm.Cond.code ({ cls := "FigureTill$Root", name := "kind", desc := "()I" } : Jvm.MethodName) prog_12_method_2_code (1 : Nat) (Option.some Jvm.ClassFile.FieldType.int)) ∈ lw_all := lw_g (lw_at lw_m2 61 rfl) rfl
theorem q370 : (Jvm.Cond.methodLink "FigureTill$Root" (9 : Nat) ({ cls := "FigureTill$Till", name := "kind", desc := "()I" } : Jvm.MethodName)) ∈ lw_all := lw_g (lw_at lw_m2 62 rfl) rfl
theorem q371 : (Jvm.Cond.superclass "FigureTill$Root" "FigureTill$Till") ∈ lw_all := lw_g (lw_at lw_m2 63 rfl) rfl
theorem q372 : (Jvm.Cond.selects "FigureTill$Root" ({ cls := "FigureTill$Till", name := "kind", desc := "()I" } : Jvm.MethodName) ({ cls := "FigureTill$Root", name := "kind", desc := "()I" } : Jvm.MethodName)) ∈ lw_all := lw_g (lw_at lw_m2 64 rfl) rfl
theorem q390 : (Jvm.Cond.instantiable "FigureTill$Root" (2 : Nat)) ∈ lw_all := lw_g (lw_at lw_m2 82 rfl) rfl
theorem q392 : (Jvm.Cond.instanceMethod ({ cls := "FigureTill$Root", name := "<init>", desc := "(II)V" } : Jvm.MethodName)) ∈ lw_all := lw_g (lw_at lw_m2 84 rfl) rfl
theorem q393 : (Jvm.Cond.code ({ cls := "FigureTill$Root", name := "<init>", desc := "(II)V" } : Jvm.MethodName) prog_12_method_1_code (3 : Nat) (Option.none : Option Jvm.ClassFile.FieldType)) ∈ lw_all := lw_g (lw_at lw_m2 85 rfl) rfl
theorem q394 : (Jvm.Cond.methodLink "FigureTill$Root" (3 : Nat) ({ cls := "FigureTill$Till", name := "<init>", desc := "(II)V" } : Jvm.MethodName)) ∈ lw_all := lw_g (lw_at lw_m2 86 rfl) rfl
theorem q395 : (Jvm.Cond.laysFinal "FigureTill$Root" "FigureTill$Till" "number" "I") ∈ lw_all := lw_g (lw_at lw_m2 87 rfl) rfl
theorem q396 : (Jvm.Cond.laysFinal "FigureTill$Root" "FigureTill$Till" "m" "I") ∈ lw_all := lw_g (lw_at lw_m2 88 rfl) rfl
theorem q489 : (Jvm.Cond.instanceMethod ({ cls := "FigureTill$Root", name := "pays", desc := "(LFigureTill$Sees;II)I" } : Jvm.MethodName)) ∈ lw_all := lw_g (lw_at lw_m2 181 rfl) rfl
theorem q490 : (Jvm.Cond.publicMethod ({ cls := "FigureTill$Root", name := "pays", desc := "(LFigureTill$Sees;II)I" } : Jvm.MethodName)) ∈ lw_tbl := lw_at lw_m2 182 rfl
theorem q491 : (Jvm.Cond.code ({ cls := "FigureTill$Root", name := "pays", desc := "(LFigureTill$Sees;II)I" } : Jvm.MethodName) prog_12_method_4_code (4 : Nat) (Option.some Jvm.ClassFile.FieldType.int)) ∈ lw_all := lw_g (lw_at lw_m2 183 rfl) rfl
theorem q492 : (Jvm.Cond.methodLink "FigureTill$Root" (13 : Nat) ({ cls := "FigureTill$Root", name := "base", desc := "()I" } : Jvm.MethodName)) ∈ lw_all := lw_g (lw_at lw_m2 184 rfl) rfl
theorem q493 : (Jvm.Cond.instanceMethod ({ cls := "FigureTill$Root", name := "base", desc := "()I" } : Jvm.MethodName)) ∈ lw_all := lw_g (lw_at lw_m2 185 rfl) rfl
theorem q494 : (Jvm.Cond.selects "FigureTill$Root" ({ cls := "FigureTill$Root", name := "base", desc := "()I" } : Jvm.MethodName) ({ cls := "FigureTill$Root", name := "base", desc := "()I" } : Jvm.MethodName)) ∈ lw_all := lw_g (lw_at lw_m2 186 rfl) rfl
theorem q495 : (Jvm.Cond.sameMethod "FigureTill$Root" "FigureTill$Root" "base" "()I") ∈ lw_all := lw_g (lw_at lw_m2 187 rfl) rfl
theorem q499 : (Jvm.Cond.code ({ cls := "FigureTill$Root", name := "base", desc := "()I" } : Jvm.MethodName) prog_12_method_3_code (1 : Nat) (Option.some Jvm.ClassFile.FieldType.int)) ∈ lw_all := lw_g (lw_at lw_m2 191 rfl) rfl
theorem q500 : (Jvm.Cond.methodLinkNest "FigureTill$Root" (18 : Nat) ({ cls := "FigureTill", name := "rootOf", desc := "(II)I" } : Jvm.MethodName) "FigureTill") ∈ lw_tbl := lw_at lw_m2 192 rfl
theorem q503 : (Jvm.Cond.castable "FigureTill$Root" "FigureTill$Pays") ∈ lw_tbl := lw_at lw_m2 195 rfl
theorem q504 : (Jvm.Cond.selects "FigureTill$Root" ({ cls := "FigureTill$Pays", name := "pays", desc := "(LFigureTill$Sees;II)I" } : Jvm.MethodName) ({ cls := "FigureTill$Root", name := "pays", desc := "(LFigureTill$Sees;II)I" } : Jvm.MethodName)) ∈ lw_all := lw_g (lw_at lw_m2 196 rfl) rfl
theorem q505 : (Jvm.Cond.unhidden "FigureTill$Root" "pays" "(LFigureTill$Sees;II)I") ∈ lw_tbl := lw_at lw_m2 197 rfl
theorem q992 : (Jvm.Cond.selects "FigureTill$Root" ({ cls := "FigureTill$Till", name := "adds", desc := "(ILFigureTill$Trace;)I" } : Jvm.MethodName) ({ cls := "FigureTill$Till", name := "adds", desc := "(ILFigureTill$Trace;)I" } : Jvm.MethodName)) ∈ lw_all := lw_g (lw_at lw_m4 204 rfl) rfl
theorem q1006 : (Jvm.Cond.instanceMethod ({ cls := "FigureTill$Root", name := "comes", desc := "(ILFigureTill$Trace;)I" } : Jvm.MethodName)) ∈ lw_all := lw_g (lw_at lw_m4 218 rfl) rfl
theorem q1007 : (Jvm.Cond.code ({ cls := "FigureTill$Root", name := "comes", desc := "(ILFigureTill$Trace;)I" } : Jvm.MethodName) prog_12_method_5_code (3 : Nat) (Option.some Jvm.ClassFile.FieldType.int)) ∈ lw_all := lw_g (lw_at lw_m4 219 rfl) rfl
theorem q1008 : (Jvm.Cond.methodLink "FigureTill$Root" (22 : Nat) ({ cls := "FigureTill$Trace", name := "ran", desc := "(I)V" } : Jvm.MethodName)) ∈ lw_all := lw_g (lw_at lw_m4 220 rfl) rfl
theorem q1031 : (Jvm.Cond.castable "FigureTill$Root" "FigureTill$Comes") ∈ lw_tbl := lw_at lw_m5 3 rfl
theorem q1032 : (Jvm.Cond.selects "FigureTill$Root" ({ cls := "FigureTill$Comes", name := "adds", desc := "(ILFigureTill$Trace;)I" } : Jvm.MethodName) ({ cls := "FigureTill$Till", name := "adds", desc := "(ILFigureTill$Trace;)I" } : Jvm.MethodName)) ∈ lw_all := lw_g (lw_at lw_m5 4 rfl) rfl
theorem q1033 : (Jvm.Cond.unhidden "FigureTill$Root" "adds" "(ILFigureTill$Trace;)I") ∈ lw_tbl := lw_at lw_m5 5 rfl
theorem q1041 : (Jvm.Cond.selects "FigureTill$Root" ({ cls := "FigureTill$Comes", name := "comes", desc := "(ILFigureTill$Trace;)I" } : Jvm.MethodName) ({ cls := "FigureTill$Root", name := "comes", desc := "(ILFigureTill$Trace;)I" } : Jvm.MethodName)) ∈ lw_all := lw_g (lw_at lw_m5 13 rfl) rfl
theorem q1065 : (Jvm.Cond.selects "FigureTill$Root" ({ cls := "FigureTill$Till", name := "gives", desc := "(ILFigureTill$Trace;)I" } : Jvm.MethodName) ({ cls := "FigureTill$Till", name := "gives", desc := "(ILFigureTill$Trace;)I" } : Jvm.MethodName)) ∈ lw_all := lw_g (lw_at lw_m5 37 rfl) rfl
theorem q1079 : (Jvm.Cond.selects "FigureTill$Root" ({ cls := "FigureTill$Till", name := "parts", desc := "(ILFigureTill$Trace;)I" } : Jvm.MethodName) ({ cls := "FigureTill$Till", name := "parts", desc := "(ILFigureTill$Trace;)I" } : Jvm.MethodName)) ∈ lw_all := lw_g (lw_at lw_m5 51 rfl) rfl
theorem q1589 : (Jvm.Cond.sameMethod "FigureTill$Root" "FigureTill$Root" "kind" "()I") ∈ lw_all := lw_g (lw_at lw_m7 81 rfl) rfl
theorem q1594 : (Jvm.Cond.sameMethod "FigureTill$Root" "FigureTill$Root" "comes" "(ILFigureTill$Trace;)I") ∈ lw_all := lw_g (lw_at lw_m7 86 rfl) rfl
theorem q1600 : (Jvm.Cond.castable "FigureTill$Root" "FigureTill$Till") ∈ lw_tbl := lw_at lw_m7 92 rfl
theorem in_X8 : ∀ w ∈ wsX80, w ∈ lw_all := lw_in wsX80 [395, 396] (by decide +kernel) (by decide +kernel)
/-! FigureTill$Errs -/
def RX9 : String := "FigureTill$Errs"
def TX9 : u_T := fun k => match k with
  | 0 => ("FigureTill$Till", "number", "I", true)
  | _ => ("FigureTill$Till", "m", "I", true)
def tyX9 : Nat → FieldType := fun k => match k with
  | 0 => .int
  | _ => .int
abbrev wsX90 : List Cond := u_ws RX9 TX9 2
theorem nmX9 : ∀ a, a < 2 → ∀ b, b < 2 → a ≠ b → (TX9 a).2.1 ≠ (TX9 b).2.1 := by decide +kernel
theorem tyX9_ok : ∀ k, k < 2 → parseFieldDescriptor (TX9 k).2.2.1 = some (tyX9 k) := by decide +kernel
abbrev cX9_kind : ByteArray := prog_3_method_2_code
def yX9_kind : MethodName := ⟨RX9, "kind", "()I"⟩
def dkwX9_kind_0 : List UInt8 := [42, 183, 0, 9, 6, 96, 172]
abbrev dktX9_kind_0 : List UInt8 := dkwX9_kind_0 ++ []
theorem dksX9_kind_0 : cX9_kind.data.toList.drop 0 = dktX9_kind_0 := by decide +kernel
theorem dX9_kind_0 : decode cX9_kind 0 = .ok (.aload_n 0, 1) := dk_42 (dk_at dksX9_kind_0 0 rfl rfl)
theorem dX9_kind_1 : decode cX9_kind 1 = .ok (.invokespecial 9, 3) := dk_183 0 9 (dk_at dksX9_kind_0 1 rfl rfl)
theorem dX9_kind_4 : decode cX9_kind 4 = .ok (.iconst 3, 1) := dk_6 (dk_at dksX9_kind_0 4 rfl rfl)
theorem dX9_kind_5 : decode cX9_kind 5 = .ok (.iadd, 1) := dk_96 (dk_at dksX9_kind_0 5 rfl rfl)
theorem dX9_kind_6 : decode cX9_kind 6 = .ok (.ireturn, 1) := dk_172 (dk_at dksX9_kind_0 6 rfl rfl)
abbrev cX9_init : ByteArray := prog_3_method_1_code
def yX9_init : MethodName := ⟨RX9, "<init>", "(II)V"⟩
def dkwX9_init_0 : List UInt8 := [42, 27, 28, 183, 0, 3, 177]
abbrev dktX9_init_0 : List UInt8 := dkwX9_init_0 ++ []
theorem dksX9_init_0 : cX9_init.data.toList.drop 0 = dktX9_init_0 := by decide +kernel
theorem dX9_init_0 : decode cX9_init 0 = .ok (.aload_n 0, 1) := dk_42 (dk_at dksX9_init_0 0 rfl rfl)
theorem dX9_init_1 : decode cX9_init 1 = .ok (.iload_n 1, 1) := dk_27 (dk_at dksX9_init_0 1 rfl rfl)
theorem dX9_init_2 : decode cX9_init 2 = .ok (.iload_n 2, 1) := dk_28 (dk_at dksX9_init_0 2 rfl rfl)
theorem dX9_init_3 : decode cX9_init 3 = .ok (.invokespecial 3, 3) := dk_183 0 3 (dk_at dksX9_init_0 3 rfl rfl)
theorem dX9_init_6 : decode cX9_init 6 = .ok (.return_, 1) := dk_177 (dk_at dksX9_init_0 6 rfl rfl)
abbrev cX9_pays : ByteArray := prog_3_method_3_code
def yX9_pays : MethodName := ⟨RX9, "pays", "(LFigureTill$Sees;II)I"⟩
def dkwX9_pays_0 : List UInt8 := [42, 43, 28, 42, 180, 0, 13, 96, 29, 183, 0, 19, 172]
abbrev dktX9_pays_0 : List UInt8 := dkwX9_pays_0 ++ []
theorem dksX9_pays_0 : cX9_pays.data.toList.drop 0 = dktX9_pays_0 := by decide +kernel
theorem dX9_pays_0 : decode cX9_pays 0 = .ok (.aload_n 0, 1) := dk_42 (dk_at dksX9_pays_0 0 rfl rfl)
theorem dX9_pays_1 : decode cX9_pays 1 = .ok (.aload_n 1, 1) := dk_43 (dk_at dksX9_pays_0 1 rfl rfl)
theorem dX9_pays_2 : decode cX9_pays 2 = .ok (.iload_n 2, 1) := dk_28 (dk_at dksX9_pays_0 2 rfl rfl)
theorem dX9_pays_3 : decode cX9_pays 3 = .ok (.aload_n 0, 1) := dk_42 (dk_at dksX9_pays_0 3 rfl rfl)
theorem dX9_pays_4 : decode cX9_pays 4 = .ok (.getfield 13, 3) := dk_180 0 13 (dk_at dksX9_pays_0 4 rfl rfl)
theorem dX9_pays_7 : decode cX9_pays 7 = .ok (.iadd, 1) := dk_96 (dk_at dksX9_pays_0 7 rfl rfl)
theorem dX9_pays_8 : decode cX9_pays 8 = .ok (.iload_n 3, 1) := dk_29 (dk_at dksX9_pays_0 8 rfl rfl)
theorem dX9_pays_9 : decode cX9_pays 9 = .ok (.invokespecial 19, 3) := dk_183 0 19 (dk_at dksX9_pays_0 9 rfl rfl)
theorem dX9_pays_12 : decode cX9_pays 12 = .ok (.ireturn, 1) := dk_172 (dk_at dksX9_pays_0 12 rfl rfl)
abbrev cX9_gives : ByteArray := prog_3_method_4_code
def yX9_gives : MethodName := ⟨RX9, "gives", "(ILFigureTill$Trace;)I"⟩
def dkwX9_gives_0 : List UInt8 := [44, 16, 40, 182, 0, 23, 42, 27, 5, 108, 44, 183, 0, 29, 172]
abbrev dktX9_gives_0 : List UInt8 := dkwX9_gives_0 ++ []
theorem dksX9_gives_0 : cX9_gives.data.toList.drop 0 = dktX9_gives_0 := by decide +kernel
theorem dX9_gives_0 : decode cX9_gives 0 = .ok (.aload_n 2, 1) := dk_44 (dk_at dksX9_gives_0 0 rfl rfl)
theorem dX9_gives_1 : decode cX9_gives 1 = .ok (.bipush 40, 2) := dk_16 40 (dk_at dksX9_gives_0 1 rfl rfl)
theorem dX9_gives_3 : decode cX9_gives 3 = .ok (.invokevirtual 23, 3) := dk_182 0 23 (dk_at dksX9_gives_0 3 rfl rfl)
theorem dX9_gives_6 : decode cX9_gives 6 = .ok (.aload_n 0, 1) := dk_42 (dk_at dksX9_gives_0 6 rfl rfl)
theorem dX9_gives_7 : decode cX9_gives 7 = .ok (.iload_n 1, 1) := dk_27 (dk_at dksX9_gives_0 7 rfl rfl)
theorem dX9_gives_8 : decode cX9_gives 8 = .ok (.iconst 2, 1) := dk_5 (dk_at dksX9_gives_0 8 rfl rfl)
theorem dX9_gives_9 : decode cX9_gives 9 = .ok (.idiv, 1) := dk_108 (dk_at dksX9_gives_0 9 rfl rfl)
theorem dX9_gives_10 : decode cX9_gives 10 = .ok (.aload_n 2, 1) := dk_44 (dk_at dksX9_gives_0 10 rfl rfl)
theorem dX9_gives_11 : decode cX9_gives 11 = .ok (.invokespecial 29, 3) := dk_183 0 29 (dk_at dksX9_gives_0 11 rfl rfl)
theorem dX9_gives_14 : decode cX9_gives 14 = .ok (.ireturn, 1) := dk_172 (dk_at dksX9_gives_0 14 rfl rfl)
theorem q79 : (Jvm.Cond.initialized "FigureTill$Errs") ∈ lw_all := lw_g (lw_at lw_m1 11 rfl) rfl
theorem q142 : (Jvm.Cond.fieldLink "FigureTill$Errs" (13 : Nat) "FigureTill$Errs" "m" "I") ∈ lw_all := lw_g (lw_at lw_m1 74 rfl) rfl
theorem q143 : (Jvm.Cond.sameField "FigureTill$Errs" "FigureTill$Till" "m" "I") ∈ lw_all := lw_g (lw_at lw_m1 75 rfl) rfl
theorem q347 : (Jvm.Cond.selects "FigureTill$Errs" ({ cls := "FigureTill$Till", name := "kind", desc := "()I" } : Jvm.MethodName) ({ cls := "FigureTill$Errs", name := "kind", desc := "()I" } : Jvm.MethodName)) ∈ lw_all := lw_g (lw_at lw_m2 39 rfl) rfl
theorem q348 : (Jvm.Cond.instanceMethod ({ cls := "FigureTill$Errs", name := "kind", desc := "()I" } : Jvm.MethodName)) ∈ lw_all := lw_g (lw_at lw_m2 40 rfl) rfl
theorem q349 : (Jvm.Cond.code ({ cls := "FigureTill$Errs", name := "kind", desc := "()I" } : Jvm.MethodName) prog_3_method_2_code (1 : Nat) (Option.some Jvm.ClassFile.FieldType.int)) ∈ lw_all := lw_g (lw_at lw_m2 41 rfl) rfl
theorem q350 : (Jvm.Cond.methodLink "FigureTill$Errs" (9 : Nat) ({ cls := "FigureTill$Till", name := "kind", desc := "()I" } : Jvm.MethodName)) ∈ lw_all := lw_g (lw_at lw_m2 42 rfl) rfl
theorem q351 : (Jvm.Cond.superclass "FigureTill$Errs" "FigureTill$Till") ∈ lw_all := lw_g (lw_at lw_m2 43 rfl) rfl
theorem q398 : (Jvm.Cond.instantiable "FigureTill$Errs" (2 : Nat)) ∈ lw_all := lw_g (lw_at lw_m2 90 rfl) rfl
theorem q400 : (Jvm.Cond.instanceMethod ({ cls := "FigureTill$Errs", name := "<init>", desc := "(II)V" } : Jvm.MethodName)) ∈ lw_all := lw_g (lw_at lw_m2 92 rfl) rfl
theorem q401 : (Jvm.Cond.code ({ cls := "FigureTill$Errs", name := "<init>", desc := "(II)V" } : Jvm.MethodName) prog_3_method_1_code (3 : Nat) (Option.none : Option Jvm.ClassFile.FieldType)) ∈ lw_all := lw_g (lw_at lw_m2 93 rfl) rfl
theorem q402 : (Jvm.Cond.methodLink "FigureTill$Errs" (3 : Nat) ({ cls := "FigureTill$Till", name := "<init>", desc := "(II)V" } : Jvm.MethodName)) ∈ lw_all := lw_g (lw_at lw_m2 94 rfl) rfl
theorem q403 : (Jvm.Cond.laysFinal "FigureTill$Errs" "FigureTill$Till" "number" "I") ∈ lw_all := lw_g (lw_at lw_m2 95 rfl) rfl
theorem q404 : (Jvm.Cond.laysFinal "FigureTill$Errs" "FigureTill$Till" "m" "I") ∈ lw_all := lw_g (lw_at lw_m2 96 rfl) rfl
theorem q462 : (Jvm.Cond.castable "FigureTill$Errs" "FigureTill$Pays") ∈ lw_tbl := lw_at lw_m2 154 rfl
theorem q463 : (Jvm.Cond.selects "FigureTill$Errs" ({ cls := "FigureTill$Pays", name := "pays", desc := "(LFigureTill$Sees;II)I" } : Jvm.MethodName) ({ cls := "FigureTill$Errs", name := "pays", desc := "(LFigureTill$Sees;II)I" } : Jvm.MethodName)) ∈ lw_all := lw_g (lw_at lw_m2 155 rfl) rfl
theorem q464 : (Jvm.Cond.unhidden "FigureTill$Errs" "pays" "(LFigureTill$Sees;II)I") ∈ lw_tbl := lw_at lw_m2 156 rfl
theorem q465 : (Jvm.Cond.instanceMethod ({ cls := "FigureTill$Errs", name := "pays", desc := "(LFigureTill$Sees;II)I" } : Jvm.MethodName)) ∈ lw_all := lw_g (lw_at lw_m2 157 rfl) rfl
theorem q466 : (Jvm.Cond.publicMethod ({ cls := "FigureTill$Errs", name := "pays", desc := "(LFigureTill$Sees;II)I" } : Jvm.MethodName)) ∈ lw_tbl := lw_at lw_m2 158 rfl
theorem q467 : (Jvm.Cond.code ({ cls := "FigureTill$Errs", name := "pays", desc := "(LFigureTill$Sees;II)I" } : Jvm.MethodName) prog_3_method_3_code (4 : Nat) (Option.some Jvm.ClassFile.FieldType.int)) ∈ lw_all := lw_g (lw_at lw_m2 159 rfl) rfl
theorem q468 : (Jvm.Cond.methodLink "FigureTill$Errs" (19 : Nat) ({ cls := "FigureTill$Till", name := "pays", desc := "(LFigureTill$Sees;II)I" } : Jvm.MethodName)) ∈ lw_all := lw_g (lw_at lw_m2 160 rfl) rfl
theorem q975 : (Jvm.Cond.selects "FigureTill$Errs" ({ cls := "FigureTill$Till", name := "adds", desc := "(ILFigureTill$Trace;)I" } : Jvm.MethodName) ({ cls := "FigureTill$Till", name := "adds", desc := "(ILFigureTill$Trace;)I" } : Jvm.MethodName)) ∈ lw_all := lw_g (lw_at lw_m4 187 rfl) rfl
theorem q998 : (Jvm.Cond.unhidden "FigureTill$Errs" "comes" "(ILFigureTill$Trace;)I") ∈ lw_tbl := lw_at lw_m4 210 rfl
theorem q1016 : (Jvm.Cond.castable "FigureTill$Errs" "FigureTill$Comes") ∈ lw_tbl := lw_at lw_m4 228 rfl
theorem q1017 : (Jvm.Cond.selects "FigureTill$Errs" ({ cls := "FigureTill$Comes", name := "adds", desc := "(ILFigureTill$Trace;)I" } : Jvm.MethodName) ({ cls := "FigureTill$Till", name := "adds", desc := "(ILFigureTill$Trace;)I" } : Jvm.MethodName)) ∈ lw_all := lw_g (lw_at lw_m4 229 rfl) rfl
theorem q1018 : (Jvm.Cond.unhidden "FigureTill$Errs" "adds" "(ILFigureTill$Trace;)I") ∈ lw_tbl := lw_at lw_m4 230 rfl
theorem q1051 : (Jvm.Cond.selects "FigureTill$Errs" ({ cls := "FigureTill$Till", name := "gives", desc := "(ILFigureTill$Trace;)I" } : Jvm.MethodName) ({ cls := "FigureTill$Errs", name := "gives", desc := "(ILFigureTill$Trace;)I" } : Jvm.MethodName)) ∈ lw_all := lw_g (lw_at lw_m5 23 rfl) rfl
theorem q1052 : (Jvm.Cond.instanceMethod ({ cls := "FigureTill$Errs", name := "gives", desc := "(ILFigureTill$Trace;)I" } : Jvm.MethodName)) ∈ lw_all := lw_g (lw_at lw_m5 24 rfl) rfl
theorem q1053 : (Jvm.Cond.code ({ cls := "FigureTill$Errs", name := "gives", desc := "(ILFigureTill$Trace;)I" } : Jvm.MethodName) prog_3_method_4_code (3 : Nat) (Option.some Jvm.ClassFile.FieldType.int)) ∈ lw_all := lw_g (lw_at lw_m5 25 rfl) rfl
theorem q1054 : (Jvm.Cond.methodLink "FigureTill$Errs" (23 : Nat) ({ cls := "FigureTill$Trace", name := "ran", desc := "(I)V" } : Jvm.MethodName)) ∈ lw_all := lw_g (lw_at lw_m5 26 rfl) rfl
theorem q1055 : (Jvm.Cond.methodLink "FigureTill$Errs" (29 : Nat) ({ cls := "FigureTill$Till", name := "gives", desc := "(ILFigureTill$Trace;)I" } : Jvm.MethodName)) ∈ lw_all := lw_g (lw_at lw_m5 27 rfl) rfl
theorem q1071 : (Jvm.Cond.selects "FigureTill$Errs" ({ cls := "FigureTill$Till", name := "parts", desc := "(ILFigureTill$Trace;)I" } : Jvm.MethodName) ({ cls := "FigureTill$Till", name := "parts", desc := "(ILFigureTill$Trace;)I" } : Jvm.MethodName)) ∈ lw_all := lw_g (lw_at lw_m5 43 rfl) rfl
theorem q1596 : (Jvm.Cond.castable "FigureTill$Errs" "FigureTill$Till") ∈ lw_tbl := lw_at lw_m7 88 rfl
theorem in_X9 : ∀ w ∈ wsX90, w ∈ lw_all := lw_in wsX90 [403, 404] (by decide +kernel) (by decide +kernel)
/-! FigureTill$Other -/
def RX10 : String := "FigureTill$Other"
def TX10 : u_T := fun k => match k with
  | 0 => ("FigureTill$Till", "number", "I", true)
  | _ => ("FigureTill$Till", "m", "I", true)
def tyX10 : Nat → FieldType := fun k => match k with
  | 0 => .int
  | _ => .int
abbrev wsX100 : List Cond := u_ws RX10 TX10 2
theorem nmX10 : ∀ a, a < 2 → ∀ b, b < 2 → a ≠ b → (TX10 a).2.1 ≠ (TX10 b).2.1 := by decide +kernel
theorem tyX10_ok : ∀ k, k < 2 → parseFieldDescriptor (TX10 k).2.2.1 = some (tyX10 k) := by decide +kernel
abbrev cX10_kind : ByteArray := prog_9_method_2_code
def yX10_kind : MethodName := ⟨RX10, "kind", "()I"⟩
def dkwX10_kind_0 : List UInt8 := [42, 183, 0, 7, 5, 96, 172]
abbrev dktX10_kind_0 : List UInt8 := dkwX10_kind_0 ++ []
theorem dksX10_kind_0 : cX10_kind.data.toList.drop 0 = dktX10_kind_0 := by decide +kernel
theorem dX10_kind_0 : decode cX10_kind 0 = .ok (.aload_n 0, 1) := dk_42 (dk_at dksX10_kind_0 0 rfl rfl)
theorem dX10_kind_1 : decode cX10_kind 1 = .ok (.invokespecial 7, 3) := dk_183 0 7 (dk_at dksX10_kind_0 1 rfl rfl)
theorem dX10_kind_4 : decode cX10_kind 4 = .ok (.iconst 2, 1) := dk_5 (dk_at dksX10_kind_0 4 rfl rfl)
theorem dX10_kind_5 : decode cX10_kind 5 = .ok (.iadd, 1) := dk_96 (dk_at dksX10_kind_0 5 rfl rfl)
theorem dX10_kind_6 : decode cX10_kind 6 = .ok (.ireturn, 1) := dk_172 (dk_at dksX10_kind_0 6 rfl rfl)
abbrev cX10_init : ByteArray := prog_9_method_1_code
def yX10_init : MethodName := ⟨RX10, "<init>", "(II)V"⟩
def dkwX10_init_0 : List UInt8 := [42, 27, 28, 183, 0, 1, 177]
abbrev dktX10_init_0 : List UInt8 := dkwX10_init_0 ++ []
theorem dksX10_init_0 : cX10_init.data.toList.drop 0 = dktX10_init_0 := by decide +kernel
theorem dX10_init_0 : decode cX10_init 0 = .ok (.aload_n 0, 1) := dk_42 (dk_at dksX10_init_0 0 rfl rfl)
theorem dX10_init_1 : decode cX10_init 1 = .ok (.iload_n 1, 1) := dk_27 (dk_at dksX10_init_0 1 rfl rfl)
theorem dX10_init_2 : decode cX10_init 2 = .ok (.iload_n 2, 1) := dk_28 (dk_at dksX10_init_0 2 rfl rfl)
theorem dX10_init_3 : decode cX10_init 3 = .ok (.invokespecial 1, 3) := dk_183 0 1 (dk_at dksX10_init_0 3 rfl rfl)
theorem dX10_init_6 : decode cX10_init 6 = .ok (.return_, 1) := dk_177 (dk_at dksX10_init_0 6 rfl rfl)
abbrev cX10_base : ByteArray := prog_9_method_3_code
def yX10_base : MethodName := ⟨RX10, "base", "()I"⟩
def dkwX10_base_0 : List UInt8 := [42, 180, 0, 11, 5, 96, 172]
abbrev dktX10_base_0 : List UInt8 := dkwX10_base_0 ++ []
theorem dksX10_base_0 : cX10_base.data.toList.drop 0 = dktX10_base_0 := by decide +kernel
theorem dX10_base_0 : decode cX10_base 0 = .ok (.aload_n 0, 1) := dk_42 (dk_at dksX10_base_0 0 rfl rfl)
theorem dX10_base_1 : decode cX10_base 1 = .ok (.getfield 11, 3) := dk_180 0 11 (dk_at dksX10_base_0 1 rfl rfl)
theorem dX10_base_4 : decode cX10_base 4 = .ok (.iconst 2, 1) := dk_5 (dk_at dksX10_base_0 4 rfl rfl)
theorem dX10_base_5 : decode cX10_base 5 = .ok (.iadd, 1) := dk_96 (dk_at dksX10_base_0 5 rfl rfl)
theorem dX10_base_6 : decode cX10_base 6 = .ok (.ireturn, 1) := dk_172 (dk_at dksX10_base_0 6 rfl rfl)
abbrev cX10_comes : ByteArray := prog_9_method_4_code
def yX10_comes : MethodName := ⟨RX10, "comes", "(ILFigureTill$Trace;)I"⟩
def dkwX10_comes_0 : List UInt8 := [44, 16, 60, 182, 0, 17, 42, 27, 4, 96, 44, 183, 0, 23, 172]
abbrev dktX10_comes_0 : List UInt8 := dkwX10_comes_0 ++ []
theorem dksX10_comes_0 : cX10_comes.data.toList.drop 0 = dktX10_comes_0 := by decide +kernel
theorem dX10_comes_0 : decode cX10_comes 0 = .ok (.aload_n 2, 1) := dk_44 (dk_at dksX10_comes_0 0 rfl rfl)
theorem dX10_comes_1 : decode cX10_comes 1 = .ok (.bipush 60, 2) := dk_16 60 (dk_at dksX10_comes_0 1 rfl rfl)
theorem dX10_comes_3 : decode cX10_comes 3 = .ok (.invokevirtual 17, 3) := dk_182 0 17 (dk_at dksX10_comes_0 3 rfl rfl)
theorem dX10_comes_6 : decode cX10_comes 6 = .ok (.aload_n 0, 1) := dk_42 (dk_at dksX10_comes_0 6 rfl rfl)
theorem dX10_comes_7 : decode cX10_comes 7 = .ok (.iload_n 1, 1) := dk_27 (dk_at dksX10_comes_0 7 rfl rfl)
theorem dX10_comes_8 : decode cX10_comes 8 = .ok (.iconst 1, 1) := dk_4 (dk_at dksX10_comes_0 8 rfl rfl)
theorem dX10_comes_9 : decode cX10_comes 9 = .ok (.iadd, 1) := dk_96 (dk_at dksX10_comes_0 9 rfl rfl)
theorem dX10_comes_10 : decode cX10_comes 10 = .ok (.aload_n 2, 1) := dk_44 (dk_at dksX10_comes_0 10 rfl rfl)
theorem dX10_comes_11 : decode cX10_comes 11 = .ok (.invokespecial 23, 3) := dk_183 0 23 (dk_at dksX10_comes_0 11 rfl rfl)
theorem dX10_comes_14 : decode cX10_comes 14 = .ok (.ireturn, 1) := dk_172 (dk_at dksX10_comes_0 14 rfl rfl)
theorem q80 : (Jvm.Cond.initialized "FigureTill$Other") ∈ lw_all := lw_g (lw_at lw_m1 12 rfl) rfl
theorem q140 : (Jvm.Cond.fieldLink "FigureTill$Other" (11 : Nat) "FigureTill$Other" "m" "I") ∈ lw_all := lw_g (lw_at lw_m1 72 rfl) rfl
theorem q141 : (Jvm.Cond.sameField "FigureTill$Other" "FigureTill$Till" "m" "I") ∈ lw_all := lw_g (lw_at lw_m1 73 rfl) rfl
theorem q363 : (Jvm.Cond.selects "FigureTill$Other" ({ cls := "FigureTill$Till", name := "kind", desc := "()I" } : Jvm.MethodName) ({ cls := "FigureTill$Other", name := "kind", desc := "()I" } : Jvm.MethodName)) ∈ lw_all := lw_g (lw_at lw_m2 55 rfl) rfl
theorem q364 : (Jvm.Cond.instanceMethod ({ cls := "FigureTill$Other", name := "kind", desc := "()I" } : Jvm.MethodName)) ∈ lw_all := lw_g (lw_at lw_m2 56 rfl) rfl
theorem q365 : (Jvm.Cond.code ({ cls := "FigureTill$Other", name := "kind", desc := "()I" } : Jvm.MethodName) prog_9_method_2_code (1 : Nat) (Option.some Jvm.ClassFile.FieldType.int)) ∈ lw_all := lw_g (lw_at lw_m2 57 rfl) rfl
theorem q366 : (Jvm.Cond.methodLink "FigureTill$Other" (7 : Nat) ({ cls := "FigureTill$Root", name := "kind", desc := "()I" } : Jvm.MethodName)) ∈ lw_all := lw_g (lw_at lw_m2 58 rfl) rfl
theorem q367 : (Jvm.Cond.superclass "FigureTill$Other" "FigureTill$Root") ∈ lw_all := lw_g (lw_at lw_m2 59 rfl) rfl
theorem q406 : (Jvm.Cond.instantiable "FigureTill$Other" (2 : Nat)) ∈ lw_all := lw_g (lw_at lw_m2 98 rfl) rfl
theorem q408 : (Jvm.Cond.instanceMethod ({ cls := "FigureTill$Other", name := "<init>", desc := "(II)V" } : Jvm.MethodName)) ∈ lw_all := lw_g (lw_at lw_m2 100 rfl) rfl
theorem q409 : (Jvm.Cond.code ({ cls := "FigureTill$Other", name := "<init>", desc := "(II)V" } : Jvm.MethodName) prog_9_method_1_code (3 : Nat) (Option.none : Option Jvm.ClassFile.FieldType)) ∈ lw_all := lw_g (lw_at lw_m2 101 rfl) rfl
theorem q410 : (Jvm.Cond.methodLink "FigureTill$Other" (1 : Nat) ({ cls := "FigureTill$Root", name := "<init>", desc := "(II)V" } : Jvm.MethodName)) ∈ lw_all := lw_g (lw_at lw_m2 102 rfl) rfl
theorem q411 : (Jvm.Cond.laysFinal "FigureTill$Other" "FigureTill$Till" "number" "I") ∈ lw_all := lw_g (lw_at lw_m2 103 rfl) rfl
theorem q412 : (Jvm.Cond.laysFinal "FigureTill$Other" "FigureTill$Till" "m" "I") ∈ lw_all := lw_g (lw_at lw_m2 104 rfl) rfl
theorem q486 : (Jvm.Cond.castable "FigureTill$Other" "FigureTill$Pays") ∈ lw_tbl := lw_at lw_m2 178 rfl
theorem q487 : (Jvm.Cond.selects "FigureTill$Other" ({ cls := "FigureTill$Pays", name := "pays", desc := "(LFigureTill$Sees;II)I" } : Jvm.MethodName) ({ cls := "FigureTill$Root", name := "pays", desc := "(LFigureTill$Sees;II)I" } : Jvm.MethodName)) ∈ lw_all := lw_g (lw_at lw_m2 179 rfl) rfl
theorem q488 : (Jvm.Cond.unhidden "FigureTill$Other" "pays" "(LFigureTill$Sees;II)I") ∈ lw_tbl := lw_at lw_m2 180 rfl
theorem q496 : (Jvm.Cond.selects "FigureTill$Other" ({ cls := "FigureTill$Root", name := "base", desc := "()I" } : Jvm.MethodName) ({ cls := "FigureTill$Other", name := "base", desc := "()I" } : Jvm.MethodName)) ∈ lw_all := lw_g (lw_at lw_m2 188 rfl) rfl
theorem q497 : (Jvm.Cond.instanceMethod ({ cls := "FigureTill$Other", name := "base", desc := "()I" } : Jvm.MethodName)) ∈ lw_all := lw_g (lw_at lw_m2 189 rfl) rfl
theorem q498 : (Jvm.Cond.code ({ cls := "FigureTill$Other", name := "base", desc := "()I" } : Jvm.MethodName) prog_9_method_3_code (1 : Nat) (Option.some Jvm.ClassFile.FieldType.int)) ∈ lw_all := lw_g (lw_at lw_m2 190 rfl) rfl
theorem q991 : (Jvm.Cond.selects "FigureTill$Other" ({ cls := "FigureTill$Till", name := "adds", desc := "(ILFigureTill$Trace;)I" } : Jvm.MethodName) ({ cls := "FigureTill$Till", name := "adds", desc := "(ILFigureTill$Trace;)I" } : Jvm.MethodName)) ∈ lw_all := lw_g (lw_at lw_m4 203 rfl) rfl
theorem q1001 : (Jvm.Cond.selects "FigureTill$Other" ({ cls := "FigureTill$Comes", name := "comes", desc := "(ILFigureTill$Trace;)I" } : Jvm.MethodName) ({ cls := "FigureTill$Other", name := "comes", desc := "(ILFigureTill$Trace;)I" } : Jvm.MethodName)) ∈ lw_all := lw_g (lw_at lw_m4 213 rfl) rfl
theorem q1002 : (Jvm.Cond.instanceMethod ({ cls := "FigureTill$Other", name := "comes", desc := "(ILFigureTill$Trace;)I" } : Jvm.MethodName)) ∈ lw_all := lw_g (lw_at lw_m4 214 rfl) rfl
theorem q1003 : (Jvm.Cond.code ({ cls := "FigureTill$Other", name := "comes", desc := "(ILFigureTill$Trace;)I" } : Jvm.MethodName) prog_9_method_4_code (3 : Nat) (Option.some Jvm.ClassFile.FieldType.int)) ∈ lw_all := lw_g (lw_at lw_m4 215 rfl) rfl
theorem q1004 : (Jvm.Cond.methodLink "FigureTill$Other" (17 : Nat) ({ cls := "FigureTill$Trace", name := "ran", desc := "(I)V" } : Jvm.MethodName)) ∈ lw_all := lw_g (lw_at lw_m4 216 rfl) rfl
theorem q1005 : (Jvm.Cond.methodLink "FigureTill$Other" (23 : Nat) ({ cls := "FigureTill$Root", name := "comes", desc := "(ILFigureTill$Trace;)I" } : Jvm.MethodName)) ∈ lw_all := lw_g (lw_at lw_m4 217 rfl) rfl
theorem q1028 : (Jvm.Cond.castable "FigureTill$Other" "FigureTill$Comes") ∈ lw_tbl := lw_at lw_m5 0 rfl
theorem q1029 : (Jvm.Cond.selects "FigureTill$Other" ({ cls := "FigureTill$Comes", name := "adds", desc := "(ILFigureTill$Trace;)I" } : Jvm.MethodName) ({ cls := "FigureTill$Till", name := "adds", desc := "(ILFigureTill$Trace;)I" } : Jvm.MethodName)) ∈ lw_all := lw_g (lw_at lw_m5 1 rfl) rfl
theorem q1030 : (Jvm.Cond.unhidden "FigureTill$Other" "adds" "(ILFigureTill$Trace;)I") ∈ lw_tbl := lw_at lw_m5 2 rfl
theorem q1064 : (Jvm.Cond.selects "FigureTill$Other" ({ cls := "FigureTill$Till", name := "gives", desc := "(ILFigureTill$Trace;)I" } : Jvm.MethodName) ({ cls := "FigureTill$Till", name := "gives", desc := "(ILFigureTill$Trace;)I" } : Jvm.MethodName)) ∈ lw_all := lw_g (lw_at lw_m5 36 rfl) rfl
theorem q1078 : (Jvm.Cond.selects "FigureTill$Other" ({ cls := "FigureTill$Till", name := "parts", desc := "(ILFigureTill$Trace;)I" } : Jvm.MethodName) ({ cls := "FigureTill$Till", name := "parts", desc := "(ILFigureTill$Trace;)I" } : Jvm.MethodName)) ∈ lw_all := lw_g (lw_at lw_m5 50 rfl) rfl
theorem q1599 : (Jvm.Cond.castable "FigureTill$Other" "FigureTill$Till") ∈ lw_tbl := lw_at lw_m7 91 rfl
theorem q1603 : (Jvm.Cond.castable "FigureTill$Other" "FigureTill$Root") ∈ lw_tbl := lw_at lw_m7 95 rfl
theorem in_X10 : ∀ w ∈ wsX100, w ∈ lw_all := lw_in wsX100 [411, 412] (by decide +kernel) (by decide +kernel)
/-! FigureTill$Floor -/
def RX11 : String := "FigureTill$Floor"
def TX11 : u_T := fun k => match k with
  | 0 => ("FigureTill$Till", "number", "I", true)
  | _ => ("FigureTill$Till", "m", "I", true)
def tyX11 : Nat → FieldType := fun k => match k with
  | 0 => .int
  | _ => .int
abbrev wsX110 : List Cond := u_ws RX11 TX11 2
theorem nmX11 : ∀ a, a < 2 → ∀ b, b < 2 → a ≠ b → (TX11 a).2.1 ≠ (TX11 b).2.1 := by decide +kernel
theorem tyX11_ok : ∀ k, k < 2 → parseFieldDescriptor (TX11 k).2.2.1 = some (tyX11 k) := by decide +kernel
abbrev cX11_kind : ByteArray := prog_6_method_2_code
def yX11_kind : MethodName := ⟨RX11, "kind", "()I"⟩
def dkwX11_kind_0 : List UInt8 := [42, 183, 0, 7, 7, 96, 172]
abbrev dktX11_kind_0 : List UInt8 := dkwX11_kind_0 ++ []
theorem dksX11_kind_0 : cX11_kind.data.toList.drop 0 = dktX11_kind_0 := by decide +kernel
theorem dX11_kind_0 : decode cX11_kind 0 = .ok (.aload_n 0, 1) := dk_42 (dk_at dksX11_kind_0 0 rfl rfl)
theorem dX11_kind_1 : decode cX11_kind 1 = .ok (.invokespecial 7, 3) := dk_183 0 7 (dk_at dksX11_kind_0 1 rfl rfl)
theorem dX11_kind_4 : decode cX11_kind 4 = .ok (.iconst 4, 1) := dk_7 (dk_at dksX11_kind_0 4 rfl rfl)
theorem dX11_kind_5 : decode cX11_kind 5 = .ok (.iadd, 1) := dk_96 (dk_at dksX11_kind_0 5 rfl rfl)
theorem dX11_kind_6 : decode cX11_kind 6 = .ok (.ireturn, 1) := dk_172 (dk_at dksX11_kind_0 6 rfl rfl)
abbrev cX11_init : ByteArray := prog_6_method_1_code
def yX11_init : MethodName := ⟨RX11, "<init>", "(II)V"⟩
def dkwX11_init_0 : List UInt8 := [42, 27, 28, 183, 0, 1, 177]
abbrev dktX11_init_0 : List UInt8 := dkwX11_init_0 ++ []
theorem dksX11_init_0 : cX11_init.data.toList.drop 0 = dktX11_init_0 := by decide +kernel
theorem dX11_init_0 : decode cX11_init 0 = .ok (.aload_n 0, 1) := dk_42 (dk_at dksX11_init_0 0 rfl rfl)
theorem dX11_init_1 : decode cX11_init 1 = .ok (.iload_n 1, 1) := dk_27 (dk_at dksX11_init_0 1 rfl rfl)
theorem dX11_init_2 : decode cX11_init 2 = .ok (.iload_n 2, 1) := dk_28 (dk_at dksX11_init_0 2 rfl rfl)
theorem dX11_init_3 : decode cX11_init 3 = .ok (.invokespecial 1, 3) := dk_183 0 1 (dk_at dksX11_init_0 3 rfl rfl)
theorem dX11_init_6 : decode cX11_init 6 = .ok (.return_, 1) := dk_177 (dk_at dksX11_init_0 6 rfl rfl)
abbrev cX11_pays : ByteArray := prog_6_method_3_code
def yX11_pays : MethodName := ⟨RX11, "pays", "(LFigureTill$Sees;II)I"⟩
def dkwX11_pays_0 : List UInt8 := [42, 180, 0, 11, 42, 43, 28, 29, 183, 0, 17, 184, 0, 21, 172]
abbrev dktX11_pays_0 : List UInt8 := dkwX11_pays_0 ++ []
theorem dksX11_pays_0 : cX11_pays.data.toList.drop 0 = dktX11_pays_0 := by decide +kernel
theorem dX11_pays_0 : decode cX11_pays 0 = .ok (.aload_n 0, 1) := dk_42 (dk_at dksX11_pays_0 0 rfl rfl)
theorem dX11_pays_1 : decode cX11_pays 1 = .ok (.getfield 11, 3) := dk_180 0 11 (dk_at dksX11_pays_0 1 rfl rfl)
theorem dX11_pays_4 : decode cX11_pays 4 = .ok (.aload_n 0, 1) := dk_42 (dk_at dksX11_pays_0 4 rfl rfl)
theorem dX11_pays_5 : decode cX11_pays 5 = .ok (.aload_n 1, 1) := dk_43 (dk_at dksX11_pays_0 5 rfl rfl)
theorem dX11_pays_6 : decode cX11_pays 6 = .ok (.iload_n 2, 1) := dk_28 (dk_at dksX11_pays_0 6 rfl rfl)
theorem dX11_pays_7 : decode cX11_pays 7 = .ok (.iload_n 3, 1) := dk_29 (dk_at dksX11_pays_0 7 rfl rfl)
theorem dX11_pays_8 : decode cX11_pays 8 = .ok (.invokespecial 17, 3) := dk_183 0 17 (dk_at dksX11_pays_0 8 rfl rfl)
theorem dX11_pays_11 : decode cX11_pays 11 = .ok (.invokestatic 21, 3) := dk_184 0 21 (dk_at dksX11_pays_0 11 rfl rfl)
theorem dX11_pays_14 : decode cX11_pays 14 = .ok (.ireturn, 1) := dk_172 (dk_at dksX11_pays_0 14 rfl rfl)
abbrev cX11_adds : ByteArray := prog_6_method_4_code
def yX11_adds : MethodName := ⟨RX11, "adds", "(ILFigureTill$Trace;)I"⟩
def dkwX11_adds_0 : List UInt8 := [44, 16, 50, 182, 0, 27, 42, 27, 44, 183, 0, 33, 6, 104, 172]
abbrev dktX11_adds_0 : List UInt8 := dkwX11_adds_0 ++ []
theorem dksX11_adds_0 : cX11_adds.data.toList.drop 0 = dktX11_adds_0 := by decide +kernel
theorem dX11_adds_0 : decode cX11_adds 0 = .ok (.aload_n 2, 1) := dk_44 (dk_at dksX11_adds_0 0 rfl rfl)
theorem dX11_adds_1 : decode cX11_adds 1 = .ok (.bipush 50, 2) := dk_16 50 (dk_at dksX11_adds_0 1 rfl rfl)
theorem dX11_adds_3 : decode cX11_adds 3 = .ok (.invokevirtual 27, 3) := dk_182 0 27 (dk_at dksX11_adds_0 3 rfl rfl)
theorem dX11_adds_6 : decode cX11_adds 6 = .ok (.aload_n 0, 1) := dk_42 (dk_at dksX11_adds_0 6 rfl rfl)
theorem dX11_adds_7 : decode cX11_adds 7 = .ok (.iload_n 1, 1) := dk_27 (dk_at dksX11_adds_0 7 rfl rfl)
theorem dX11_adds_8 : decode cX11_adds 8 = .ok (.aload_n 2, 1) := dk_44 (dk_at dksX11_adds_0 8 rfl rfl)
theorem dX11_adds_9 : decode cX11_adds 9 = .ok (.invokespecial 33, 3) := dk_183 0 33 (dk_at dksX11_adds_0 9 rfl rfl)
theorem dX11_adds_12 : decode cX11_adds 12 = .ok (.iconst 3, 1) := dk_6 (dk_at dksX11_adds_0 12 rfl rfl)
theorem dX11_adds_13 : decode cX11_adds 13 = .ok (.imul, 1) := dk_104 (dk_at dksX11_adds_0 13 rfl rfl)
theorem dX11_adds_14 : decode cX11_adds 14 = .ok (.ireturn, 1) := dk_172 (dk_at dksX11_adds_0 14 rfl rfl)
abbrev cX11_gives : ByteArray := prog_6_method_5_code
def yX11_gives : MethodName := ⟨RX11, "gives", "(ILFigureTill$Trace;)I"⟩
def dkwX11_gives_0 : List UInt8 := [44, 16, 51, 182, 0, 27, 42, 27, 44, 183, 0, 37, 42, 180, 0, 40, 130, 172]
abbrev dktX11_gives_0 : List UInt8 := dkwX11_gives_0 ++ []
theorem dksX11_gives_0 : cX11_gives.data.toList.drop 0 = dktX11_gives_0 := by decide +kernel
theorem dX11_gives_0 : decode cX11_gives 0 = .ok (.aload_n 2, 1) := dk_44 (dk_at dksX11_gives_0 0 rfl rfl)
theorem dX11_gives_1 : decode cX11_gives 1 = .ok (.bipush 51, 2) := dk_16 51 (dk_at dksX11_gives_0 1 rfl rfl)
theorem dX11_gives_3 : decode cX11_gives 3 = .ok (.invokevirtual 27, 3) := dk_182 0 27 (dk_at dksX11_gives_0 3 rfl rfl)
theorem dX11_gives_6 : decode cX11_gives 6 = .ok (.aload_n 0, 1) := dk_42 (dk_at dksX11_gives_0 6 rfl rfl)
theorem dX11_gives_7 : decode cX11_gives 7 = .ok (.iload_n 1, 1) := dk_27 (dk_at dksX11_gives_0 7 rfl rfl)
theorem dX11_gives_8 : decode cX11_gives 8 = .ok (.aload_n 2, 1) := dk_44 (dk_at dksX11_gives_0 8 rfl rfl)
theorem dX11_gives_9 : decode cX11_gives 9 = .ok (.invokespecial 37, 3) := dk_183 0 37 (dk_at dksX11_gives_0 9 rfl rfl)
theorem dX11_gives_12 : decode cX11_gives 12 = .ok (.aload_n 0, 1) := dk_42 (dk_at dksX11_gives_0 12 rfl rfl)
theorem dX11_gives_13 : decode cX11_gives 13 = .ok (.getfield 40, 3) := dk_180 0 40 (dk_at dksX11_gives_0 13 rfl rfl)
theorem dX11_gives_16 : decode cX11_gives 16 = .ok (.ixor, 1) := dk_130 (dk_at dksX11_gives_0 16 rfl rfl)
theorem dX11_gives_17 : decode cX11_gives 17 = .ok (.ireturn, 1) := dk_172 (dk_at dksX11_gives_0 17 rfl rfl)
theorem q81 : (Jvm.Cond.initialized "FigureTill$Floor") ∈ lw_all := lw_g (lw_at lw_m1 13 rfl) rfl
theorem q135 : (Jvm.Cond.fieldLink "FigureTill$Floor" (40 : Nat) "FigureTill$Floor" "number" "I") ∈ lw_all := lw_g (lw_at lw_m1 67 rfl) rfl
theorem q136 : (Jvm.Cond.sameField "FigureTill$Floor" "FigureTill$Till" "number" "I") ∈ lw_all := lw_g (lw_at lw_m1 68 rfl) rfl
theorem q138 : (Jvm.Cond.fieldLink "FigureTill$Floor" (11 : Nat) "FigureTill$Floor" "m" "I") ∈ lw_all := lw_g (lw_at lw_m1 70 rfl) rfl
theorem q139 : (Jvm.Cond.sameField "FigureTill$Floor" "FigureTill$Till" "m" "I") ∈ lw_all := lw_g (lw_at lw_m1 71 rfl) rfl
theorem q353 : (Jvm.Cond.selects "FigureTill$Floor" ({ cls := "FigureTill$Till", name := "kind", desc := "()I" } : Jvm.MethodName) ({ cls := "FigureTill$Floor", name := "kind", desc := "()I" } : Jvm.MethodName)) ∈ lw_all := lw_g (lw_at lw_m2 45 rfl) rfl
theorem q354 : (Jvm.Cond.instanceMethod ({ cls := "FigureTill$Floor", name := "kind", desc := "()I" } : Jvm.MethodName)) ∈ lw_all := lw_g (lw_at lw_m2 46 rfl) rfl
theorem q355 : (Jvm.Cond.code ({ cls := "FigureTill$Floor", name := "kind", desc := "()I" } : Jvm.MethodName) prog_6_method_2_code (1 : Nat) (Option.some Jvm.ClassFile.FieldType.int)) ∈ lw_all := lw_g (lw_at lw_m2 47 rfl) rfl
theorem q356 : (Jvm.Cond.methodLink "FigureTill$Floor" (7 : Nat) ({ cls := "FigureTill$Last", name := "kind", desc := "()I" } : Jvm.MethodName)) ∈ lw_all := lw_g (lw_at lw_m2 48 rfl) rfl
theorem q357 : (Jvm.Cond.superclass "FigureTill$Floor" "FigureTill$Last") ∈ lw_all := lw_g (lw_at lw_m2 49 rfl) rfl
theorem q414 : (Jvm.Cond.instantiable "FigureTill$Floor" (2 : Nat)) ∈ lw_all := lw_g (lw_at lw_m2 106 rfl) rfl
theorem q416 : (Jvm.Cond.instanceMethod ({ cls := "FigureTill$Floor", name := "<init>", desc := "(II)V" } : Jvm.MethodName)) ∈ lw_all := lw_g (lw_at lw_m2 108 rfl) rfl
theorem q417 : (Jvm.Cond.code ({ cls := "FigureTill$Floor", name := "<init>", desc := "(II)V" } : Jvm.MethodName) prog_6_method_1_code (3 : Nat) (Option.none : Option Jvm.ClassFile.FieldType)) ∈ lw_all := lw_g (lw_at lw_m2 109 rfl) rfl
theorem q418 : (Jvm.Cond.methodLink "FigureTill$Floor" (1 : Nat) ({ cls := "FigureTill$Last", name := "<init>", desc := "(II)V" } : Jvm.MethodName)) ∈ lw_all := lw_g (lw_at lw_m2 110 rfl) rfl
theorem q419 : (Jvm.Cond.laysFinal "FigureTill$Floor" "FigureTill$Till" "number" "I") ∈ lw_all := lw_g (lw_at lw_m2 111 rfl) rfl
theorem q420 : (Jvm.Cond.laysFinal "FigureTill$Floor" "FigureTill$Till" "m" "I") ∈ lw_all := lw_g (lw_at lw_m2 112 rfl) rfl
theorem q472 : (Jvm.Cond.castable "FigureTill$Floor" "FigureTill$Pays") ∈ lw_tbl := lw_at lw_m2 164 rfl
theorem q473 : (Jvm.Cond.selects "FigureTill$Floor" ({ cls := "FigureTill$Pays", name := "pays", desc := "(LFigureTill$Sees;II)I" } : Jvm.MethodName) ({ cls := "FigureTill$Floor", name := "pays", desc := "(LFigureTill$Sees;II)I" } : Jvm.MethodName)) ∈ lw_all := lw_g (lw_at lw_m2 165 rfl) rfl
theorem q474 : (Jvm.Cond.unhidden "FigureTill$Floor" "pays" "(LFigureTill$Sees;II)I") ∈ lw_tbl := lw_at lw_m2 166 rfl
theorem q475 : (Jvm.Cond.instanceMethod ({ cls := "FigureTill$Floor", name := "pays", desc := "(LFigureTill$Sees;II)I" } : Jvm.MethodName)) ∈ lw_all := lw_g (lw_at lw_m2 167 rfl) rfl
theorem q476 : (Jvm.Cond.publicMethod ({ cls := "FigureTill$Floor", name := "pays", desc := "(LFigureTill$Sees;II)I" } : Jvm.MethodName)) ∈ lw_tbl := lw_at lw_m2 168 rfl
theorem q477 : (Jvm.Cond.code ({ cls := "FigureTill$Floor", name := "pays", desc := "(LFigureTill$Sees;II)I" } : Jvm.MethodName) prog_6_method_3_code (4 : Nat) (Option.some Jvm.ClassFile.FieldType.int)) ∈ lw_all := lw_g (lw_at lw_m2 169 rfl) rfl
theorem q478 : (Jvm.Cond.methodLink "FigureTill$Floor" (17 : Nat) ({ cls := "FigureTill$Last", name := "pays", desc := "(LFigureTill$Sees;II)I" } : Jvm.MethodName)) ∈ lw_all := lw_g (lw_at lw_m2 170 rfl) rfl
theorem q481 : (Jvm.Cond.methodLink "FigureTill$Floor" (21 : Nat) ({ cls := "java/lang/Math", name := "max", desc := "(II)I" } : Jvm.MethodName)) ∈ lw_all := lw_g (lw_at lw_m2 173 rfl) rfl
theorem q976 : (Jvm.Cond.selects "FigureTill$Floor" ({ cls := "FigureTill$Till", name := "adds", desc := "(ILFigureTill$Trace;)I" } : Jvm.MethodName) ({ cls := "FigureTill$Floor", name := "adds", desc := "(ILFigureTill$Trace;)I" } : Jvm.MethodName)) ∈ lw_all := lw_g (lw_at lw_m4 188 rfl) rfl
theorem q977 : (Jvm.Cond.instanceMethod ({ cls := "FigureTill$Floor", name := "adds", desc := "(ILFigureTill$Trace;)I" } : Jvm.MethodName)) ∈ lw_all := lw_g (lw_at lw_m4 189 rfl) rfl
theorem q978 : (Jvm.Cond.code ({ cls := "FigureTill$Floor", name := "adds", desc := "(ILFigureTill$Trace;)I" } : Jvm.MethodName) prog_6_method_4_code (3 : Nat) (Option.some Jvm.ClassFile.FieldType.int)) ∈ lw_all := lw_g (lw_at lw_m4 190 rfl) rfl
theorem q979 : (Jvm.Cond.methodLink "FigureTill$Floor" (27 : Nat) ({ cls := "FigureTill$Trace", name := "ran", desc := "(I)V" } : Jvm.MethodName)) ∈ lw_all := lw_g (lw_at lw_m4 191 rfl) rfl
theorem q983 : (Jvm.Cond.methodLink "FigureTill$Floor" (33 : Nat) ({ cls := "FigureTill$Last", name := "adds", desc := "(ILFigureTill$Trace;)I" } : Jvm.MethodName)) ∈ lw_all := lw_g (lw_at lw_m4 195 rfl) rfl
theorem q999 : (Jvm.Cond.unhidden "FigureTill$Floor" "comes" "(ILFigureTill$Trace;)I") ∈ lw_tbl := lw_at lw_m4 211 rfl
theorem q1020 : (Jvm.Cond.castable "FigureTill$Floor" "FigureTill$Comes") ∈ lw_tbl := lw_at lw_m4 232 rfl
theorem q1021 : (Jvm.Cond.selects "FigureTill$Floor" ({ cls := "FigureTill$Comes", name := "adds", desc := "(ILFigureTill$Trace;)I" } : Jvm.MethodName) ({ cls := "FigureTill$Floor", name := "adds", desc := "(ILFigureTill$Trace;)I" } : Jvm.MethodName)) ∈ lw_all := lw_g (lw_at lw_m4 233 rfl) rfl
theorem q1022 : (Jvm.Cond.unhidden "FigureTill$Floor" "adds" "(ILFigureTill$Trace;)I") ∈ lw_tbl := lw_at lw_m4 234 rfl
theorem q1023 : (Jvm.Cond.publicMethod ({ cls := "FigureTill$Floor", name := "adds", desc := "(ILFigureTill$Trace;)I" } : Jvm.MethodName)) ∈ lw_tbl := lw_at lw_m4 235 rfl
theorem q1057 : (Jvm.Cond.selects "FigureTill$Floor" ({ cls := "FigureTill$Till", name := "gives", desc := "(ILFigureTill$Trace;)I" } : Jvm.MethodName) ({ cls := "FigureTill$Floor", name := "gives", desc := "(ILFigureTill$Trace;)I" } : Jvm.MethodName)) ∈ lw_all := lw_g (lw_at lw_m5 29 rfl) rfl
theorem q1058 : (Jvm.Cond.instanceMethod ({ cls := "FigureTill$Floor", name := "gives", desc := "(ILFigureTill$Trace;)I" } : Jvm.MethodName)) ∈ lw_all := lw_g (lw_at lw_m5 30 rfl) rfl
theorem q1059 : (Jvm.Cond.code ({ cls := "FigureTill$Floor", name := "gives", desc := "(ILFigureTill$Trace;)I" } : Jvm.MethodName) prog_6_method_5_code (3 : Nat) (Option.some Jvm.ClassFile.FieldType.int)) ∈ lw_all := lw_g (lw_at lw_m5 31 rfl) rfl
theorem q1060 : (Jvm.Cond.methodLink "FigureTill$Floor" (37 : Nat) ({ cls := "FigureTill$Last", name := "gives", desc := "(ILFigureTill$Trace;)I" } : Jvm.MethodName)) ∈ lw_all := lw_g (lw_at lw_m5 32 rfl) rfl
theorem q1072 : (Jvm.Cond.selects "FigureTill$Floor" ({ cls := "FigureTill$Till", name := "parts", desc := "(ILFigureTill$Trace;)I" } : Jvm.MethodName) ({ cls := "FigureTill$Last", name := "parts", desc := "(ILFigureTill$Trace;)I" } : Jvm.MethodName)) ∈ lw_all := lw_g (lw_at lw_m5 44 rfl) rfl
theorem q1597 : (Jvm.Cond.castable "FigureTill$Floor" "FigureTill$Till") ∈ lw_tbl := lw_at lw_m7 89 rfl
theorem q1602 : (Jvm.Cond.castable "FigureTill$Floor" "FigureTill$Last") ∈ lw_tbl := lw_at lw_m7 94 rfl
theorem in_X11 : ∀ w ∈ wsX110, w ∈ lw_all := lw_in wsX110 [419, 420] (by decide +kernel) (by decide +kernel)
/-! FigureTill$Told -/
def RX12 : String := "FigureTill$Told"
def TX12 : u_T := fun k => match k with
  | 0 => ("FigureTill$Till", "number", "I", true)
  | _ => ("FigureTill$Till", "m", "I", true)
def tyX12 : Nat → FieldType := fun k => match k with
  | 0 => .int
  | _ => .int
abbrev wsX120 : List Cond := u_ws RX12 TX12 2
theorem nmX12 : ∀ a, a < 2 → ∀ b, b < 2 → a ≠ b → (TX12 a).2.1 ≠ (TX12 b).2.1 := by decide +kernel
theorem tyX12_ok : ∀ k, k < 2 → parseFieldDescriptor (TX12 k).2.2.1 = some (tyX12 k) := by decide +kernel
abbrev cX12_kind : ByteArray := prog_17_method_2_code
def yX12_kind : MethodName := ⟨RX12, "kind", "()I"⟩
def dkwX12_kind_0 : List UInt8 := [42, 183, 0, 9, 16, 6, 96, 172]
abbrev dktX12_kind_0 : List UInt8 := dkwX12_kind_0 ++ []
theorem dksX12_kind_0 : cX12_kind.data.toList.drop 0 = dktX12_kind_0 := by decide +kernel
theorem dX12_kind_0 : decode cX12_kind 0 = .ok (.aload_n 0, 1) := dk_42 (dk_at dksX12_kind_0 0 rfl rfl)
theorem dX12_kind_1 : decode cX12_kind 1 = .ok (.invokespecial 9, 3) := dk_183 0 9 (dk_at dksX12_kind_0 1 rfl rfl)
theorem dX12_kind_4 : decode cX12_kind 4 = .ok (.bipush 6, 2) := dk_16 6 (dk_at dksX12_kind_0 4 rfl rfl)
theorem dX12_kind_6 : decode cX12_kind 6 = .ok (.iadd, 1) := dk_96 (dk_at dksX12_kind_0 6 rfl rfl)
theorem dX12_kind_7 : decode cX12_kind 7 = .ok (.ireturn, 1) := dk_172 (dk_at dksX12_kind_0 7 rfl rfl)
abbrev cX12_init : ByteArray := prog_17_method_1_code
def yX12_init : MethodName := ⟨RX12, "<init>", "(II)V"⟩
def dkwX12_init_0 : List UInt8 := [42, 27, 28, 183, 0, 3, 177]
abbrev dktX12_init_0 : List UInt8 := dkwX12_init_0 ++ []
theorem dksX12_init_0 : cX12_init.data.toList.drop 0 = dktX12_init_0 := by decide +kernel
theorem dX12_init_0 : decode cX12_init 0 = .ok (.aload_n 0, 1) := dk_42 (dk_at dksX12_init_0 0 rfl rfl)
theorem dX12_init_1 : decode cX12_init 1 = .ok (.iload_n 1, 1) := dk_27 (dk_at dksX12_init_0 1 rfl rfl)
theorem dX12_init_2 : decode cX12_init 2 = .ok (.iload_n 2, 1) := dk_28 (dk_at dksX12_init_0 2 rfl rfl)
theorem dX12_init_3 : decode cX12_init 3 = .ok (.invokespecial 3, 3) := dk_183 0 3 (dk_at dksX12_init_0 3 rfl rfl)
theorem dX12_init_6 : decode cX12_init 6 = .ok (.return_, 1) := dk_177 (dk_at dksX12_init_0 6 rfl rfl)
abbrev cX12_pays : ByteArray := prog_17_method_3_code
def yX12_pays : MethodName := ⟨RX12, "pays", "(LFigureTill$Sees;II)I"⟩
def dkwX12_pays_0 : List UInt8 := [43, 28, 29, 42, 180, 0, 13, 42, 43, 28, 29, 183, 0, 19, 185, 0, 23, 5, 0, 172]
abbrev dktX12_pays_0 : List UInt8 := dkwX12_pays_0 ++ []
theorem dksX12_pays_0 : cX12_pays.data.toList.drop 0 = dktX12_pays_0 := by decide +kernel
theorem dX12_pays_0 : decode cX12_pays 0 = .ok (.aload_n 1, 1) := dk_43 (dk_at dksX12_pays_0 0 rfl rfl)
theorem dX12_pays_1 : decode cX12_pays 1 = .ok (.iload_n 2, 1) := dk_28 (dk_at dksX12_pays_0 1 rfl rfl)
theorem dX12_pays_2 : decode cX12_pays 2 = .ok (.iload_n 3, 1) := dk_29 (dk_at dksX12_pays_0 2 rfl rfl)
theorem dX12_pays_3 : decode cX12_pays 3 = .ok (.aload_n 0, 1) := dk_42 (dk_at dksX12_pays_0 3 rfl rfl)
theorem dX12_pays_4 : decode cX12_pays 4 = .ok (.getfield 13, 3) := dk_180 0 13 (dk_at dksX12_pays_0 4 rfl rfl)
theorem dX12_pays_7 : decode cX12_pays 7 = .ok (.aload_n 0, 1) := dk_42 (dk_at dksX12_pays_0 7 rfl rfl)
theorem dX12_pays_8 : decode cX12_pays 8 = .ok (.aload_n 1, 1) := dk_43 (dk_at dksX12_pays_0 8 rfl rfl)
theorem dX12_pays_9 : decode cX12_pays 9 = .ok (.iload_n 2, 1) := dk_28 (dk_at dksX12_pays_0 9 rfl rfl)
theorem dX12_pays_10 : decode cX12_pays 10 = .ok (.iload_n 3, 1) := dk_29 (dk_at dksX12_pays_0 10 rfl rfl)
theorem dX12_pays_11 : decode cX12_pays 11 = .ok (.invokespecial 19, 3) := dk_183 0 19 (dk_at dksX12_pays_0 11 rfl rfl)
theorem dX12_pays_14 : decode cX12_pays 14 = .ok (.invokeinterface 23 5, 5) := by decide +kernel
theorem dX12_pays_19 : decode cX12_pays 19 = .ok (.ireturn, 1) := dk_172 (dk_at dksX12_pays_0 19 rfl rfl)
abbrev cX12_adds : ByteArray := prog_17_method_4_code
def yX12_adds : MethodName := ⟨RX12, "adds", "(ILFigureTill$Trace;)I"⟩
def dkwX12_adds_0 : List UInt8 := [44, 16, 70, 182, 0, 29, 16, 9, 172]
abbrev dktX12_adds_0 : List UInt8 := dkwX12_adds_0 ++ []
theorem dksX12_adds_0 : cX12_adds.data.toList.drop 0 = dktX12_adds_0 := by decide +kernel
theorem dX12_adds_0 : decode cX12_adds 0 = .ok (.aload_n 2, 1) := dk_44 (dk_at dksX12_adds_0 0 rfl rfl)
theorem dX12_adds_1 : decode cX12_adds 1 = .ok (.bipush 70, 2) := dk_16 70 (dk_at dksX12_adds_0 1 rfl rfl)
theorem dX12_adds_3 : decode cX12_adds 3 = .ok (.invokevirtual 29, 3) := dk_182 0 29 (dk_at dksX12_adds_0 3 rfl rfl)
theorem dX12_adds_6 : decode cX12_adds 6 = .ok (.bipush 9, 2) := dk_16 9 (dk_at dksX12_adds_0 6 rfl rfl)
theorem dX12_adds_8 : decode cX12_adds 8 = .ok (.ireturn, 1) := dk_172 (dk_at dksX12_adds_0 8 rfl rfl)
abbrev cX12_comes : ByteArray := prog_17_method_5_code
def yX12_comes : MethodName := ⟨RX12, "comes", "(ILFigureTill$Trace;)I"⟩
def dkwX12_comes_0 : List UInt8 := [44, 16, 71, 182, 0, 29, 42, 27, 44, 183, 0, 35, 42, 180, 0, 13, 96, 172]
abbrev dktX12_comes_0 : List UInt8 := dkwX12_comes_0 ++ []
theorem dksX12_comes_0 : cX12_comes.data.toList.drop 0 = dktX12_comes_0 := by decide +kernel
theorem dX12_comes_0 : decode cX12_comes 0 = .ok (.aload_n 2, 1) := dk_44 (dk_at dksX12_comes_0 0 rfl rfl)
theorem dX12_comes_1 : decode cX12_comes 1 = .ok (.bipush 71, 2) := dk_16 71 (dk_at dksX12_comes_0 1 rfl rfl)
theorem dX12_comes_3 : decode cX12_comes 3 = .ok (.invokevirtual 29, 3) := dk_182 0 29 (dk_at dksX12_comes_0 3 rfl rfl)
theorem dX12_comes_6 : decode cX12_comes 6 = .ok (.aload_n 0, 1) := dk_42 (dk_at dksX12_comes_0 6 rfl rfl)
theorem dX12_comes_7 : decode cX12_comes 7 = .ok (.iload_n 1, 1) := dk_27 (dk_at dksX12_comes_0 7 rfl rfl)
theorem dX12_comes_8 : decode cX12_comes 8 = .ok (.aload_n 2, 1) := dk_44 (dk_at dksX12_comes_0 8 rfl rfl)
theorem dX12_comes_9 : decode cX12_comes 9 = .ok (.invokespecial 35, 3) := dk_183 0 35 (dk_at dksX12_comes_0 9 rfl rfl)
theorem dX12_comes_12 : decode cX12_comes 12 = .ok (.aload_n 0, 1) := dk_42 (dk_at dksX12_comes_0 12 rfl rfl)
theorem dX12_comes_13 : decode cX12_comes 13 = .ok (.getfield 13, 3) := dk_180 0 13 (dk_at dksX12_comes_0 13 rfl rfl)
theorem dX12_comes_16 : decode cX12_comes 16 = .ok (.iadd, 1) := dk_96 (dk_at dksX12_comes_0 16 rfl rfl)
theorem dX12_comes_17 : decode cX12_comes 17 = .ok (.ireturn, 1) := dk_172 (dk_at dksX12_comes_0 17 rfl rfl)
theorem q82 : (Jvm.Cond.initialized "FigureTill$Told") ∈ lw_all := lw_g (lw_at lw_m1 14 rfl) rfl
theorem q144 : (Jvm.Cond.fieldLink "FigureTill$Told" (13 : Nat) "FigureTill$Told" "m" "I") ∈ lw_all := lw_g (lw_at lw_m1 76 rfl) rfl
theorem q145 : (Jvm.Cond.sameField "FigureTill$Told" "FigureTill$Till" "m" "I") ∈ lw_all := lw_g (lw_at lw_m1 77 rfl) rfl
theorem q373 : (Jvm.Cond.selects "FigureTill$Told" ({ cls := "FigureTill$Till", name := "kind", desc := "()I" } : Jvm.MethodName) ({ cls := "FigureTill$Told", name := "kind", desc := "()I" } : Jvm.MethodName)) ∈ lw_all := lw_g (lw_at lw_m2 65 rfl) rfl
theorem q374 : (Jvm.Cond.instanceMethod ({ cls := "FigureTill$Told", name := "kind", desc := "()I" } : Jvm.MethodName)) ∈ lw_all := lw_g (lw_at lw_m2 66 rfl) rfl
theorem q375 : (Jvm.Cond.code ({ cls := "FigureTill$Told", name := "kind", desc := "()I" } : Jvm.MethodName) prog_17_method_2_code (1 : Nat) (Option.some Jvm.ClassFile.FieldType.int)) ∈ lw_all := lw_g (lw_at lw_m2 67 rfl) rfl
theorem q376 : (Jvm.Cond.methodLink "FigureTill$Told" (9 : Nat) ({ cls := "FigureTill$Till", name := "kind", desc := "()I" } : Jvm.MethodName)) ∈ lw_all := lw_g (lw_at lw_m2 68 rfl) rfl
theorem q377 : (Jvm.Cond.superclass "FigureTill$Told" "FigureTill$Till") ∈ lw_all := lw_g (lw_at lw_m2 69 rfl) rfl
theorem q422 : (Jvm.Cond.instantiable "FigureTill$Told" (2 : Nat)) ∈ lw_all := lw_g (lw_at lw_m2 114 rfl) rfl
theorem q424 : (Jvm.Cond.instanceMethod ({ cls := "FigureTill$Told", name := "<init>", desc := "(II)V" } : Jvm.MethodName)) ∈ lw_all := lw_g (lw_at lw_m2 116 rfl) rfl
theorem q425 : (Jvm.Cond.code ({ cls := "FigureTill$Told", name := "<init>", desc := "(II)V" } : Jvm.MethodName) prog_17_method_1_code (3 : Nat) (Option.none : Option Jvm.ClassFile.FieldType)) ∈ lw_all := lw_g (lw_at lw_m2 117 rfl) rfl
theorem q426 : (Jvm.Cond.methodLink "FigureTill$Told" (3 : Nat) ({ cls := "FigureTill$Till", name := "<init>", desc := "(II)V" } : Jvm.MethodName)) ∈ lw_all := lw_g (lw_at lw_m2 118 rfl) rfl
theorem q427 : (Jvm.Cond.laysFinal "FigureTill$Told" "FigureTill$Till" "number" "I") ∈ lw_all := lw_g (lw_at lw_m2 119 rfl) rfl
theorem q428 : (Jvm.Cond.laysFinal "FigureTill$Told" "FigureTill$Till" "m" "I") ∈ lw_all := lw_g (lw_at lw_m2 120 rfl) rfl
theorem q510 : (Jvm.Cond.castable "FigureTill$Told" "FigureTill$Pays") ∈ lw_tbl := lw_at lw_m2 202 rfl
theorem q511 : (Jvm.Cond.selects "FigureTill$Told" ({ cls := "FigureTill$Pays", name := "pays", desc := "(LFigureTill$Sees;II)I" } : Jvm.MethodName) ({ cls := "FigureTill$Told", name := "pays", desc := "(LFigureTill$Sees;II)I" } : Jvm.MethodName)) ∈ lw_all := lw_g (lw_at lw_m2 203 rfl) rfl
theorem q512 : (Jvm.Cond.unhidden "FigureTill$Told" "pays" "(LFigureTill$Sees;II)I") ∈ lw_tbl := lw_at lw_m2 204 rfl
theorem q513 : (Jvm.Cond.instanceMethod ({ cls := "FigureTill$Told", name := "pays", desc := "(LFigureTill$Sees;II)I" } : Jvm.MethodName)) ∈ lw_all := lw_g (lw_at lw_m2 205 rfl) rfl
theorem q514 : (Jvm.Cond.publicMethod ({ cls := "FigureTill$Told", name := "pays", desc := "(LFigureTill$Sees;II)I" } : Jvm.MethodName)) ∈ lw_tbl := lw_at lw_m2 206 rfl
theorem q515 : (Jvm.Cond.code ({ cls := "FigureTill$Told", name := "pays", desc := "(LFigureTill$Sees;II)I" } : Jvm.MethodName) prog_17_method_3_code (4 : Nat) (Option.some Jvm.ClassFile.FieldType.int)) ∈ lw_all := lw_g (lw_at lw_m2 207 rfl) rfl
theorem q516 : (Jvm.Cond.methodLink "FigureTill$Told" (19 : Nat) ({ cls := "FigureTill$Till", name := "pays", desc := "(LFigureTill$Sees;II)I" } : Jvm.MethodName)) ∈ lw_all := lw_g (lw_at lw_m2 208 rfl) rfl
theorem q517 : (Jvm.Cond.interfaceEntry "FigureTill$Told" (23 : Nat)) ∈ lw_tbl := lw_at lw_m2 209 rfl
theorem q518 : (Jvm.Cond.methodLink "FigureTill$Told" (23 : Nat) ({ cls := "FigureTill$Sees", name := "told", desc := "(IIII)I" } : Jvm.MethodName)) ∈ lw_all := lw_g (lw_at lw_m2 210 rfl) rfl
theorem q993 : (Jvm.Cond.selects "FigureTill$Told" ({ cls := "FigureTill$Till", name := "adds", desc := "(ILFigureTill$Trace;)I" } : Jvm.MethodName) ({ cls := "FigureTill$Told", name := "adds", desc := "(ILFigureTill$Trace;)I" } : Jvm.MethodName)) ∈ lw_all := lw_g (lw_at lw_m4 205 rfl) rfl
theorem q994 : (Jvm.Cond.instanceMethod ({ cls := "FigureTill$Told", name := "adds", desc := "(ILFigureTill$Trace;)I" } : Jvm.MethodName)) ∈ lw_all := lw_g (lw_at lw_m4 206 rfl) rfl
theorem q995 : (Jvm.Cond.code ({ cls := "FigureTill$Told", name := "adds", desc := "(ILFigureTill$Trace;)I" } : Jvm.MethodName) prog_17_method_4_code (3 : Nat) (Option.some Jvm.ClassFile.FieldType.int)) ∈ lw_all := lw_g (lw_at lw_m4 207 rfl) rfl
theorem q996 : (Jvm.Cond.methodLink "FigureTill$Told" (29 : Nat) ({ cls := "FigureTill$Trace", name := "ran", desc := "(I)V" } : Jvm.MethodName)) ∈ lw_all := lw_g (lw_at lw_m4 208 rfl) rfl
theorem q1037 : (Jvm.Cond.castable "FigureTill$Told" "FigureTill$Comes") ∈ lw_tbl := lw_at lw_m5 9 rfl
theorem q1038 : (Jvm.Cond.selects "FigureTill$Told" ({ cls := "FigureTill$Comes", name := "adds", desc := "(ILFigureTill$Trace;)I" } : Jvm.MethodName) ({ cls := "FigureTill$Told", name := "adds", desc := "(ILFigureTill$Trace;)I" } : Jvm.MethodName)) ∈ lw_all := lw_g (lw_at lw_m5 10 rfl) rfl
theorem q1039 : (Jvm.Cond.unhidden "FigureTill$Told" "adds" "(ILFigureTill$Trace;)I") ∈ lw_tbl := lw_at lw_m5 11 rfl
theorem q1040 : (Jvm.Cond.publicMethod ({ cls := "FigureTill$Told", name := "adds", desc := "(ILFigureTill$Trace;)I" } : Jvm.MethodName)) ∈ lw_tbl := lw_at lw_m5 12 rfl
theorem q1043 : (Jvm.Cond.selects "FigureTill$Told" ({ cls := "FigureTill$Comes", name := "comes", desc := "(ILFigureTill$Trace;)I" } : Jvm.MethodName) ({ cls := "FigureTill$Told", name := "comes", desc := "(ILFigureTill$Trace;)I" } : Jvm.MethodName)) ∈ lw_all := lw_g (lw_at lw_m5 15 rfl) rfl
theorem q1044 : (Jvm.Cond.instanceMethod ({ cls := "FigureTill$Told", name := "comes", desc := "(ILFigureTill$Trace;)I" } : Jvm.MethodName)) ∈ lw_all := lw_g (lw_at lw_m5 16 rfl) rfl
theorem q1045 : (Jvm.Cond.code ({ cls := "FigureTill$Told", name := "comes", desc := "(ILFigureTill$Trace;)I" } : Jvm.MethodName) prog_17_method_5_code (3 : Nat) (Option.some Jvm.ClassFile.FieldType.int)) ∈ lw_all := lw_g (lw_at lw_m5 17 rfl) rfl
theorem q1066 : (Jvm.Cond.selects "FigureTill$Told" ({ cls := "FigureTill$Till", name := "gives", desc := "(ILFigureTill$Trace;)I" } : Jvm.MethodName) ({ cls := "FigureTill$Till", name := "gives", desc := "(ILFigureTill$Trace;)I" } : Jvm.MethodName)) ∈ lw_all := lw_g (lw_at lw_m5 38 rfl) rfl
theorem q1080 : (Jvm.Cond.selects "FigureTill$Told" ({ cls := "FigureTill$Till", name := "parts", desc := "(ILFigureTill$Trace;)I" } : Jvm.MethodName) ({ cls := "FigureTill$Till", name := "parts", desc := "(ILFigureTill$Trace;)I" } : Jvm.MethodName)) ∈ lw_all := lw_g (lw_at lw_m5 52 rfl) rfl
theorem q1601 : (Jvm.Cond.castable "FigureTill$Told" "FigureTill$Till") ∈ lw_tbl := lw_at lw_m7 93 rfl
theorem in_X12 : ∀ w ∈ wsX120, w ∈ lw_all := lw_in wsX120 [427, 428] (by decide +kernel) (by decide +kernel)
/-! FigureTill$Reader -/
def RX13 : String := "FigureTill$Reader"
def TX13 : u_T := fun k => match k with
  | 0 => ("FigureTill$Reader", "tape", "[B", true)
  | 1 => ("FigureTill$Reader", "size", "I", true)
  | 2 => ("FigureTill$Reader", "names", "Ljava/lang/String;", true)
  | 3 => ("FigureTill$Reader", "text", "LFigureTill$Text;", true)
  | 4 => ("FigureTill$Reader", "at", "I", false)
  | _ => ("FigureTill$Reader", "open", "I", false)
def tyX13 : Nat → FieldType := fun k => match k with
  | 0 => .array .byte
  | 1 => .int
  | 2 => .object "java/lang/String"
  | 3 => .object "FigureTill$Text"
  | 4 => .int
  | _ => .int
abbrev wsX130 : List Cond := u_ws RX13 TX13 6
theorem nmX13 : ∀ a, a < 6 → ∀ b, b < 6 → a ≠ b → (TX13 a).2.1 ≠ (TX13 b).2.1 := by decide +kernel
theorem tyX13_ok : ∀ k, k < 6 → parseFieldDescriptor (TX13 k).2.2.1 = some (tyX13 k) := by decide +kernel
abbrev cX13_init : ByteArray := prog_11_method_1_code
def yX13_init : MethodName := ⟨RX13, "<init>", "([BILjava/lang/String;)V"⟩
def dkwX13_init_1 : List UInt8 := [181, 0, 22, 42, 45, 181, 0, 26, 177]
abbrev dktX13_init_1 : List UInt8 := dkwX13_init_1 ++ []
def dkwX13_init_0 : List UInt8 := [42, 183, 0, 3, 42, 187, 0, 9, 89, 183, 0, 11, 181, 0, 12, 42, 43, 181, 0, 18, 42, 28]
abbrev dktX13_init_0 : List UInt8 := dkwX13_init_0 ++ dktX13_init_1
theorem dksX13_init_0 : cX13_init.data.toList.drop 0 = dktX13_init_0 := by decide +kernel
theorem dksX13_init_1 : cX13_init.data.toList.drop 22 = dktX13_init_1 := dk_seg dksX13_init_0 22 rfl rfl
theorem dX13_init_0 : decode cX13_init 0 = .ok (.aload_n 0, 1) := dk_42 (dk_at dksX13_init_0 0 rfl rfl)
theorem dX13_init_1 : decode cX13_init 1 = .ok (.invokespecial 3, 3) := dk_183 0 3 (dk_at dksX13_init_0 1 rfl rfl)
theorem dX13_init_4 : decode cX13_init 4 = .ok (.aload_n 0, 1) := dk_42 (dk_at dksX13_init_0 4 rfl rfl)
theorem dX13_init_5 : decode cX13_init 5 = .ok (.new 9, 3) := dk_187 0 9 (dk_at dksX13_init_0 5 rfl rfl)
theorem dX13_init_8 : decode cX13_init 8 = .ok (.dup, 1) := dk_89 (dk_at dksX13_init_0 8 rfl rfl)
theorem dX13_init_9 : decode cX13_init 9 = .ok (.invokespecial 11, 3) := dk_183 0 11 (dk_at dksX13_init_0 9 rfl rfl)
theorem dX13_init_12 : decode cX13_init 12 = .ok (.putfield 12, 3) := dk_181 0 12 (dk_at dksX13_init_0 12 rfl rfl)
theorem dX13_init_15 : decode cX13_init 15 = .ok (.aload_n 0, 1) := dk_42 (dk_at dksX13_init_0 15 rfl rfl)
theorem dX13_init_16 : decode cX13_init 16 = .ok (.aload_n 1, 1) := dk_43 (dk_at dksX13_init_0 16 rfl rfl)
theorem dX13_init_17 : decode cX13_init 17 = .ok (.putfield 18, 3) := dk_181 0 18 (dk_at dksX13_init_0 17 rfl rfl)
theorem dX13_init_20 : decode cX13_init 20 = .ok (.aload_n 0, 1) := dk_42 (dk_at dksX13_init_0 20 rfl rfl)
theorem dX13_init_21 : decode cX13_init 21 = .ok (.iload_n 2, 1) := dk_28 (dk_at dksX13_init_0 21 rfl rfl)
theorem dX13_init_22 : decode cX13_init 22 = .ok (.putfield 22, 3) := dk_181 0 22 (dk_at dksX13_init_1 0 rfl rfl)
theorem dX13_init_25 : decode cX13_init 25 = .ok (.aload_n 0, 1) := dk_42 (dk_at dksX13_init_1 3 rfl rfl)
theorem dX13_init_26 : decode cX13_init 26 = .ok (.aload_n 3, 1) := dk_45 (dk_at dksX13_init_1 4 rfl rfl)
theorem dX13_init_27 : decode cX13_init 27 = .ok (.putfield 26, 3) := dk_181 0 26 (dk_at dksX13_init_1 5 rfl rfl)
theorem dX13_init_30 : decode cX13_init 30 = .ok (.return_, 1) := dk_177 (dk_at dksX13_init_1 8 rfl rfl)
abbrev cX13_read : ByteArray := prog_11_method_6_code
def yX13_read : MethodName := ⟨RX13, "read", "()LFigureTill$Text;"⟩
def dkwX13_read_1 : List UInt8 := [176]
abbrev dktX13_read_1 : List UInt8 := dkwX13_read_1 ++ []
def dkwX13_read_0 : List UInt8 := [42, 182, 0, 48, 42, 180, 0, 30, 42, 180, 0, 22, 162, 0, 8, 42, 182, 0, 51, 191, 42, 180, 0, 12]
abbrev dktX13_read_0 : List UInt8 := dkwX13_read_0 ++ dktX13_read_1
theorem dksX13_read_0 : cX13_read.data.toList.drop 0 = dktX13_read_0 := by decide +kernel
theorem dksX13_read_1 : cX13_read.data.toList.drop 24 = dktX13_read_1 := dk_seg dksX13_read_0 24 rfl rfl
theorem dX13_read_0 : decode cX13_read 0 = .ok (.aload_n 0, 1) := dk_42 (dk_at dksX13_read_0 0 rfl rfl)
theorem dX13_read_1 : decode cX13_read 1 = .ok (.invokevirtual 48, 3) := dk_182 0 48 (dk_at dksX13_read_0 1 rfl rfl)
theorem dX13_read_4 : decode cX13_read 4 = .ok (.aload_n 0, 1) := dk_42 (dk_at dksX13_read_0 4 rfl rfl)
theorem dX13_read_5 : decode cX13_read 5 = .ok (.getfield 30, 3) := dk_180 0 30 (dk_at dksX13_read_0 5 rfl rfl)
theorem dX13_read_8 : decode cX13_read 8 = .ok (.aload_n 0, 1) := dk_42 (dk_at dksX13_read_0 8 rfl rfl)
theorem dX13_read_9 : decode cX13_read 9 = .ok (.getfield 22, 3) := dk_180 0 22 (dk_at dksX13_read_0 9 rfl rfl)
theorem dX13_read_12 : decode cX13_read 12 = .ok (.if_icmp .ge 8, 3) := dk_162 0 8 (dk_at dksX13_read_0 12 rfl rfl)
theorem dX13_read_15 : decode cX13_read 15 = .ok (.aload_n 0, 1) := dk_42 (dk_at dksX13_read_0 15 rfl rfl)
theorem dX13_read_16 : decode cX13_read 16 = .ok (.invokevirtual 51, 3) := dk_182 0 51 (dk_at dksX13_read_0 16 rfl rfl)
theorem dX13_read_19 : decode cX13_read 19 = .ok (.athrow, 1) := dk_191 (dk_at dksX13_read_0 19 rfl rfl)
theorem dX13_read_20 : decode cX13_read 20 = .ok (.aload_n 0, 1) := dk_42 (dk_at dksX13_read_0 20 rfl rfl)
theorem dX13_read_21 : decode cX13_read 21 = .ok (.getfield 12, 3) := dk_180 0 12 (dk_at dksX13_read_0 21 rfl rfl)
theorem dX13_read_24 : decode cX13_read 24 = .ok (.areturn, 1) := dk_176 (dk_at dksX13_read_1 0 rfl rfl)
abbrev cX13_either : ByteArray := prog_11_method_7_code
def yX13_either : MethodName := ⟨RX13, "either", "()V"⟩
def dkwX13_either_1 : List UInt8 := [182, 0, 62, 167, 255, 233, 177]
abbrev dktX13_either_1 : List UInt8 := dkwX13_either_1 ++ []
def dkwX13_either_0 : List UInt8 := [42, 182, 0, 55, 42, 16, 124, 182, 0, 58, 153, 0, 20, 42, 182, 0, 55, 42, 180, 0, 12, 16, 124, 3]
abbrev dktX13_either_0 : List UInt8 := dkwX13_either_0 ++ dktX13_either_1
theorem dksX13_either_0 : cX13_either.data.toList.drop 0 = dktX13_either_0 := by decide +kernel
theorem dksX13_either_1 : cX13_either.data.toList.drop 24 = dktX13_either_1 := dk_seg dksX13_either_0 24 rfl rfl
theorem dX13_either_0 : decode cX13_either 0 = .ok (.aload_n 0, 1) := dk_42 (dk_at dksX13_either_0 0 rfl rfl)
theorem dX13_either_1 : decode cX13_either 1 = .ok (.invokevirtual 55, 3) := dk_182 0 55 (dk_at dksX13_either_0 1 rfl rfl)
theorem dX13_either_4 : decode cX13_either 4 = .ok (.aload_n 0, 1) := dk_42 (dk_at dksX13_either_0 4 rfl rfl)
theorem dX13_either_5 : decode cX13_either 5 = .ok (.bipush 124, 2) := dk_16 124 (dk_at dksX13_either_0 5 rfl rfl)
theorem dX13_either_7 : decode cX13_either 7 = .ok (.invokevirtual 58, 3) := dk_182 0 58 (dk_at dksX13_either_0 7 rfl rfl)
theorem dX13_either_10 : decode cX13_either 10 = .ok (.ifCond .eq 20, 3) := dk_153 0 20 (dk_at dksX13_either_0 10 rfl rfl)
theorem dX13_either_13 : decode cX13_either 13 = .ok (.aload_n 0, 1) := dk_42 (dk_at dksX13_either_0 13 rfl rfl)
theorem dX13_either_14 : decode cX13_either 14 = .ok (.invokevirtual 55, 3) := dk_182 0 55 (dk_at dksX13_either_0 14 rfl rfl)
theorem dX13_either_17 : decode cX13_either 17 = .ok (.aload_n 0, 1) := dk_42 (dk_at dksX13_either_0 17 rfl rfl)
theorem dX13_either_18 : decode cX13_either 18 = .ok (.getfield 12, 3) := dk_180 0 12 (dk_at dksX13_either_0 18 rfl rfl)
theorem dX13_either_21 : decode cX13_either 21 = .ok (.bipush 124, 2) := dk_16 124 (dk_at dksX13_either_0 21 rfl rfl)
theorem dX13_either_23 : decode cX13_either 23 = .ok (.iconst 0, 1) := dk_3 (dk_at dksX13_either_0 23 rfl rfl)
theorem dX13_either_24 : decode cX13_either 24 = .ok (.invokevirtual 62, 3) := dk_182 0 62 (dk_at dksX13_either_1 0 rfl rfl)
theorem dX13_either_27 : decode cX13_either 27 = .ok (.goto (-23), 3) := dk_167 255 233 (dk_at dksX13_either_1 3 rfl rfl)
theorem dX13_either_30 : decode cX13_either 30 = .ok (.return_, 1) := dk_177 (dk_at dksX13_either_1 6 rfl rfl)
abbrev cX13_both : ByteArray := prog_11_method_8_code
def yX13_both : MethodName := ⟨RX13, "both", "()V"⟩
def dkwX13_both_1 : List UInt8 := [182, 0, 62, 167, 255, 233, 177]
abbrev dktX13_both_1 : List UInt8 := dkwX13_both_1 ++ []
def dkwX13_both_0 : List UInt8 := [42, 182, 0, 66, 42, 16, 38, 182, 0, 58, 153, 0, 20, 42, 182, 0, 66, 42, 180, 0, 12, 16, 38, 3]
abbrev dktX13_both_0 : List UInt8 := dkwX13_both_0 ++ dktX13_both_1
theorem dksX13_both_0 : cX13_both.data.toList.drop 0 = dktX13_both_0 := by decide +kernel
theorem dksX13_both_1 : cX13_both.data.toList.drop 24 = dktX13_both_1 := dk_seg dksX13_both_0 24 rfl rfl
theorem dX13_both_0 : decode cX13_both 0 = .ok (.aload_n 0, 1) := dk_42 (dk_at dksX13_both_0 0 rfl rfl)
theorem dX13_both_1 : decode cX13_both 1 = .ok (.invokevirtual 66, 3) := dk_182 0 66 (dk_at dksX13_both_0 1 rfl rfl)
theorem dX13_both_4 : decode cX13_both 4 = .ok (.aload_n 0, 1) := dk_42 (dk_at dksX13_both_0 4 rfl rfl)
theorem dX13_both_5 : decode cX13_both 5 = .ok (.bipush 38, 2) := dk_16 38 (dk_at dksX13_both_0 5 rfl rfl)
theorem dX13_both_7 : decode cX13_both 7 = .ok (.invokevirtual 58, 3) := dk_182 0 58 (dk_at dksX13_both_0 7 rfl rfl)
theorem dX13_both_10 : decode cX13_both 10 = .ok (.ifCond .eq 20, 3) := dk_153 0 20 (dk_at dksX13_both_0 10 rfl rfl)
theorem dX13_both_13 : decode cX13_both 13 = .ok (.aload_n 0, 1) := dk_42 (dk_at dksX13_both_0 13 rfl rfl)
theorem dX13_both_14 : decode cX13_both 14 = .ok (.invokevirtual 66, 3) := dk_182 0 66 (dk_at dksX13_both_0 14 rfl rfl)
theorem dX13_both_17 : decode cX13_both 17 = .ok (.aload_n 0, 1) := dk_42 (dk_at dksX13_both_0 17 rfl rfl)
theorem dX13_both_18 : decode cX13_both 18 = .ok (.getfield 12, 3) := dk_180 0 12 (dk_at dksX13_both_0 18 rfl rfl)
theorem dX13_both_21 : decode cX13_both 21 = .ok (.bipush 38, 2) := dk_16 38 (dk_at dksX13_both_0 21 rfl rfl)
theorem dX13_both_23 : decode cX13_both 23 = .ok (.iconst 0, 1) := dk_3 (dk_at dksX13_both_0 23 rfl rfl)
theorem dX13_both_24 : decode cX13_both 24 = .ok (.invokevirtual 62, 3) := dk_182 0 62 (dk_at dksX13_both_1 0 rfl rfl)
theorem dX13_both_27 : decode cX13_both 27 = .ok (.goto (-23), 3) := dk_167 255 233 (dk_at dksX13_both_1 3 rfl rfl)
theorem dX13_both_30 : decode cX13_both 30 = .ok (.return_, 1) := dk_177 (dk_at dksX13_both_1 6 rfl rfl)
abbrev cX13_compared : ByteArray := prog_11_method_9_code
def yX13_compared : MethodName := ⟨RX13, "compared", "()V"⟩
def dkwX13_compared_1 : List UInt8 := [4, 96, 181, 0, 30, 42, 182, 0, 69, 42, 180, 0, 12, 27, 3, 182, 0, 62, 177]
abbrev dktX13_compared_1 : List UInt8 := dkwX13_compared_1 ++ []
def dkwX13_compared_0 : List UInt8 := [42, 182, 0, 69, 42, 18, 72, 182, 0, 74, 154, 0, 4, 177, 42, 182, 0, 33, 60, 42, 89, 180, 0, 30]
abbrev dktX13_compared_0 : List UInt8 := dkwX13_compared_0 ++ dktX13_compared_1
theorem dksX13_compared_0 : cX13_compared.data.toList.drop 0 = dktX13_compared_0 := by decide +kernel
theorem dksX13_compared_1 : cX13_compared.data.toList.drop 24 = dktX13_compared_1 := dk_seg dksX13_compared_0 24 rfl rfl
theorem dX13_compared_0 : decode cX13_compared 0 = .ok (.aload_n 0, 1) := dk_42 (dk_at dksX13_compared_0 0 rfl rfl)
theorem dX13_compared_1 : decode cX13_compared 1 = .ok (.invokevirtual 69, 3) := dk_182 0 69 (dk_at dksX13_compared_0 1 rfl rfl)
theorem dX13_compared_4 : decode cX13_compared 4 = .ok (.aload_n 0, 1) := dk_42 (dk_at dksX13_compared_0 4 rfl rfl)
theorem dX13_compared_5 : decode cX13_compared 5 = .ok (.ldc 72, 2) := dk_18 72 (dk_at dksX13_compared_0 5 rfl rfl)
theorem dX13_compared_7 : decode cX13_compared 7 = .ok (.invokevirtual 74, 3) := dk_182 0 74 (dk_at dksX13_compared_0 7 rfl rfl)
theorem dX13_compared_10 : decode cX13_compared 10 = .ok (.ifCond .ne 4, 3) := dk_154 0 4 (dk_at dksX13_compared_0 10 rfl rfl)
theorem dX13_compared_13 : decode cX13_compared 13 = .ok (.return_, 1) := dk_177 (dk_at dksX13_compared_0 13 rfl rfl)
theorem dX13_compared_14 : decode cX13_compared 14 = .ok (.aload_n 0, 1) := dk_42 (dk_at dksX13_compared_0 14 rfl rfl)
theorem dX13_compared_15 : decode cX13_compared 15 = .ok (.invokevirtual 33, 3) := dk_182 0 33 (dk_at dksX13_compared_0 15 rfl rfl)
theorem dX13_compared_18 : decode cX13_compared 18 = .ok (.istore_n 1, 1) := dk_60 (dk_at dksX13_compared_0 18 rfl rfl)
theorem dX13_compared_19 : decode cX13_compared 19 = .ok (.aload_n 0, 1) := dk_42 (dk_at dksX13_compared_0 19 rfl rfl)
theorem dX13_compared_20 : decode cX13_compared 20 = .ok (.dup, 1) := dk_89 (dk_at dksX13_compared_0 20 rfl rfl)
theorem dX13_compared_21 : decode cX13_compared 21 = .ok (.getfield 30, 3) := dk_180 0 30 (dk_at dksX13_compared_0 21 rfl rfl)
theorem dX13_compared_24 : decode cX13_compared 24 = .ok (.iconst 1, 1) := dk_4 (dk_at dksX13_compared_1 0 rfl rfl)
theorem dX13_compared_25 : decode cX13_compared 25 = .ok (.iadd, 1) := dk_96 (dk_at dksX13_compared_1 1 rfl rfl)
theorem dX13_compared_26 : decode cX13_compared 26 = .ok (.putfield 30, 3) := dk_181 0 30 (dk_at dksX13_compared_1 2 rfl rfl)
theorem dX13_compared_29 : decode cX13_compared 29 = .ok (.aload_n 0, 1) := dk_42 (dk_at dksX13_compared_1 5 rfl rfl)
theorem dX13_compared_30 : decode cX13_compared 30 = .ok (.invokevirtual 69, 3) := dk_182 0 69 (dk_at dksX13_compared_1 6 rfl rfl)
theorem dX13_compared_33 : decode cX13_compared 33 = .ok (.aload_n 0, 1) := dk_42 (dk_at dksX13_compared_1 9 rfl rfl)
theorem dX13_compared_34 : decode cX13_compared 34 = .ok (.getfield 12, 3) := dk_180 0 12 (dk_at dksX13_compared_1 10 rfl rfl)
theorem dX13_compared_37 : decode cX13_compared 37 = .ok (.iload_n 1, 1) := dk_27 (dk_at dksX13_compared_1 13 rfl rfl)
theorem dX13_compared_38 : decode cX13_compared 38 = .ok (.iconst 0, 1) := dk_3 (dk_at dksX13_compared_1 14 rfl rfl)
theorem dX13_compared_39 : decode cX13_compared 39 = .ok (.invokevirtual 62, 3) := dk_182 0 62 (dk_at dksX13_compared_1 15 rfl rfl)
theorem dX13_compared_42 : decode cX13_compared 42 = .ok (.return_, 1) := dk_177 (dk_at dksX13_compared_1 18 rfl rfl)
abbrev cX13_sum : ByteArray := prog_11_method_10_code
def yX13_sum : MethodName := ⟨RX13, "sum", "()V"⟩
def dkwX13_sum_1 : List UInt8 := [96, 181, 0, 30, 42, 182, 0, 78, 42, 180, 0, 12, 27, 3, 182, 0, 62, 167, 255, 219, 177]
abbrev dktX13_sum_1 : List UInt8 := dkwX13_sum_1 ++ []
def dkwX13_sum_0 : List UInt8 := [42, 182, 0, 78, 42, 18, 81, 182, 0, 74, 153, 0, 34, 42, 182, 0, 33, 60, 42, 89, 180, 0, 30, 4]
abbrev dktX13_sum_0 : List UInt8 := dkwX13_sum_0 ++ dktX13_sum_1
theorem dksX13_sum_0 : cX13_sum.data.toList.drop 0 = dktX13_sum_0 := by decide +kernel
theorem dksX13_sum_1 : cX13_sum.data.toList.drop 24 = dktX13_sum_1 := dk_seg dksX13_sum_0 24 rfl rfl
theorem dX13_sum_0 : decode cX13_sum 0 = .ok (.aload_n 0, 1) := dk_42 (dk_at dksX13_sum_0 0 rfl rfl)
theorem dX13_sum_1 : decode cX13_sum 1 = .ok (.invokevirtual 78, 3) := dk_182 0 78 (dk_at dksX13_sum_0 1 rfl rfl)
theorem dX13_sum_4 : decode cX13_sum 4 = .ok (.aload_n 0, 1) := dk_42 (dk_at dksX13_sum_0 4 rfl rfl)
theorem dX13_sum_5 : decode cX13_sum 5 = .ok (.ldc 81, 2) := dk_18 81 (dk_at dksX13_sum_0 5 rfl rfl)
theorem dX13_sum_7 : decode cX13_sum 7 = .ok (.invokevirtual 74, 3) := dk_182 0 74 (dk_at dksX13_sum_0 7 rfl rfl)
theorem dX13_sum_10 : decode cX13_sum 10 = .ok (.ifCond .eq 34, 3) := dk_153 0 34 (dk_at dksX13_sum_0 10 rfl rfl)
theorem dX13_sum_13 : decode cX13_sum 13 = .ok (.aload_n 0, 1) := dk_42 (dk_at dksX13_sum_0 13 rfl rfl)
theorem dX13_sum_14 : decode cX13_sum 14 = .ok (.invokevirtual 33, 3) := dk_182 0 33 (dk_at dksX13_sum_0 14 rfl rfl)
theorem dX13_sum_17 : decode cX13_sum 17 = .ok (.istore_n 1, 1) := dk_60 (dk_at dksX13_sum_0 17 rfl rfl)
theorem dX13_sum_18 : decode cX13_sum 18 = .ok (.aload_n 0, 1) := dk_42 (dk_at dksX13_sum_0 18 rfl rfl)
theorem dX13_sum_19 : decode cX13_sum 19 = .ok (.dup, 1) := dk_89 (dk_at dksX13_sum_0 19 rfl rfl)
theorem dX13_sum_20 : decode cX13_sum 20 = .ok (.getfield 30, 3) := dk_180 0 30 (dk_at dksX13_sum_0 20 rfl rfl)
theorem dX13_sum_23 : decode cX13_sum 23 = .ok (.iconst 1, 1) := dk_4 (dk_at dksX13_sum_0 23 rfl rfl)
theorem dX13_sum_24 : decode cX13_sum 24 = .ok (.iadd, 1) := dk_96 (dk_at dksX13_sum_1 0 rfl rfl)
theorem dX13_sum_25 : decode cX13_sum 25 = .ok (.putfield 30, 3) := dk_181 0 30 (dk_at dksX13_sum_1 1 rfl rfl)
theorem dX13_sum_28 : decode cX13_sum 28 = .ok (.aload_n 0, 1) := dk_42 (dk_at dksX13_sum_1 4 rfl rfl)
theorem dX13_sum_29 : decode cX13_sum 29 = .ok (.invokevirtual 78, 3) := dk_182 0 78 (dk_at dksX13_sum_1 5 rfl rfl)
theorem dX13_sum_32 : decode cX13_sum 32 = .ok (.aload_n 0, 1) := dk_42 (dk_at dksX13_sum_1 8 rfl rfl)
theorem dX13_sum_33 : decode cX13_sum 33 = .ok (.getfield 12, 3) := dk_180 0 12 (dk_at dksX13_sum_1 9 rfl rfl)
theorem dX13_sum_36 : decode cX13_sum 36 = .ok (.iload_n 1, 1) := dk_27 (dk_at dksX13_sum_1 12 rfl rfl)
theorem dX13_sum_37 : decode cX13_sum 37 = .ok (.iconst 0, 1) := dk_3 (dk_at dksX13_sum_1 13 rfl rfl)
theorem dX13_sum_38 : decode cX13_sum 38 = .ok (.invokevirtual 62, 3) := dk_182 0 62 (dk_at dksX13_sum_1 14 rfl rfl)
theorem dX13_sum_41 : decode cX13_sum 41 = .ok (.goto (-37), 3) := dk_167 255 219 (dk_at dksX13_sum_1 17 rfl rfl)
theorem dX13_sum_44 : decode cX13_sum 44 = .ok (.return_, 1) := dk_177 (dk_at dksX13_sum_1 20 rfl rfl)
abbrev cX13_product : ByteArray := prog_11_method_11_code
def yX13_product : MethodName := ⟨RX13, "product", "()V"⟩
def dkwX13_product_1 : List UInt8 := [96, 181, 0, 30, 42, 182, 0, 83, 42, 180, 0, 12, 27, 3, 182, 0, 62, 167, 255, 219, 177]
abbrev dktX13_product_1 : List UInt8 := dkwX13_product_1 ++ []
def dkwX13_product_0 : List UInt8 := [42, 182, 0, 83, 42, 18, 86, 182, 0, 74, 153, 0, 34, 42, 182, 0, 33, 60, 42, 89, 180, 0, 30, 4]
abbrev dktX13_product_0 : List UInt8 := dkwX13_product_0 ++ dktX13_product_1
theorem dksX13_product_0 : cX13_product.data.toList.drop 0 = dktX13_product_0 := by decide +kernel
theorem dksX13_product_1 : cX13_product.data.toList.drop 24 = dktX13_product_1 := dk_seg dksX13_product_0 24 rfl rfl
theorem dX13_product_0 : decode cX13_product 0 = .ok (.aload_n 0, 1) := dk_42 (dk_at dksX13_product_0 0 rfl rfl)
theorem dX13_product_1 : decode cX13_product 1 = .ok (.invokevirtual 83, 3) := dk_182 0 83 (dk_at dksX13_product_0 1 rfl rfl)
theorem dX13_product_4 : decode cX13_product 4 = .ok (.aload_n 0, 1) := dk_42 (dk_at dksX13_product_0 4 rfl rfl)
theorem dX13_product_5 : decode cX13_product 5 = .ok (.ldc 86, 2) := dk_18 86 (dk_at dksX13_product_0 5 rfl rfl)
theorem dX13_product_7 : decode cX13_product 7 = .ok (.invokevirtual 74, 3) := dk_182 0 74 (dk_at dksX13_product_0 7 rfl rfl)
theorem dX13_product_10 : decode cX13_product 10 = .ok (.ifCond .eq 34, 3) := dk_153 0 34 (dk_at dksX13_product_0 10 rfl rfl)
theorem dX13_product_13 : decode cX13_product 13 = .ok (.aload_n 0, 1) := dk_42 (dk_at dksX13_product_0 13 rfl rfl)
theorem dX13_product_14 : decode cX13_product 14 = .ok (.invokevirtual 33, 3) := dk_182 0 33 (dk_at dksX13_product_0 14 rfl rfl)
theorem dX13_product_17 : decode cX13_product 17 = .ok (.istore_n 1, 1) := dk_60 (dk_at dksX13_product_0 17 rfl rfl)
theorem dX13_product_18 : decode cX13_product 18 = .ok (.aload_n 0, 1) := dk_42 (dk_at dksX13_product_0 18 rfl rfl)
theorem dX13_product_19 : decode cX13_product 19 = .ok (.dup, 1) := dk_89 (dk_at dksX13_product_0 19 rfl rfl)
theorem dX13_product_20 : decode cX13_product 20 = .ok (.getfield 30, 3) := dk_180 0 30 (dk_at dksX13_product_0 20 rfl rfl)
theorem dX13_product_23 : decode cX13_product 23 = .ok (.iconst 1, 1) := dk_4 (dk_at dksX13_product_0 23 rfl rfl)
theorem dX13_product_24 : decode cX13_product 24 = .ok (.iadd, 1) := dk_96 (dk_at dksX13_product_1 0 rfl rfl)
theorem dX13_product_25 : decode cX13_product 25 = .ok (.putfield 30, 3) := dk_181 0 30 (dk_at dksX13_product_1 1 rfl rfl)
theorem dX13_product_28 : decode cX13_product 28 = .ok (.aload_n 0, 1) := dk_42 (dk_at dksX13_product_1 4 rfl rfl)
theorem dX13_product_29 : decode cX13_product 29 = .ok (.invokevirtual 83, 3) := dk_182 0 83 (dk_at dksX13_product_1 5 rfl rfl)
theorem dX13_product_32 : decode cX13_product 32 = .ok (.aload_n 0, 1) := dk_42 (dk_at dksX13_product_1 8 rfl rfl)
theorem dX13_product_33 : decode cX13_product 33 = .ok (.getfield 12, 3) := dk_180 0 12 (dk_at dksX13_product_1 9 rfl rfl)
theorem dX13_product_36 : decode cX13_product 36 = .ok (.iload_n 1, 1) := dk_27 (dk_at dksX13_product_1 12 rfl rfl)
theorem dX13_product_37 : decode cX13_product 37 = .ok (.iconst 0, 1) := dk_3 (dk_at dksX13_product_1 13 rfl rfl)
theorem dX13_product_38 : decode cX13_product 38 = .ok (.invokevirtual 62, 3) := dk_182 0 62 (dk_at dksX13_product_1 14 rfl rfl)
theorem dX13_product_41 : decode cX13_product 41 = .ok (.goto (-37), 3) := dk_167 255 219 (dk_at dksX13_product_1 17 rfl rfl)
theorem dX13_product_44 : decode cX13_product 44 = .ok (.return_, 1) := dk_177 (dk_at dksX13_product_1 20 rfl rfl)
abbrev cX13_unit : ByteArray := prog_11_method_13_code
def yX13_unit : MethodName := ⟨RX13, "unit", "()V"⟩
def dkwX13_unit_5 : List UInt8 := [180, 0, 30, 4, 96, 181, 0, 30, 167, 0, 15, 42, 180, 0, 12, 4, 42, 182, 0, 94, 182, 0, 62, 177]
abbrev dktX13_unit_5 : List UInt8 := dkwX13_unit_5 ++ []
def dkwX13_unit_4 : List UInt8 := [153, 0, 35, 42, 180, 0, 12, 5, 42, 180, 0, 26, 42, 182, 0, 33, 182, 0, 37, 182, 0, 62, 42, 89]
abbrev dktX13_unit_4 : List UInt8 := dkwX13_unit_4 ++ dktX13_unit_5
def dkwX13_unit_3 : List UInt8 := [191, 42, 89, 180, 0, 88, 4, 100, 181, 0, 88, 167, 0, 58, 42, 42, 180, 0, 26, 182, 0, 74]
abbrev dktX13_unit_3 : List UInt8 := dkwX13_unit_3 ++ dktX13_unit_4
def dkwX13_unit_2 : List UInt8 := [160, 0, 38, 42, 182, 0, 91, 42, 182, 0, 48, 42, 16, 41, 182, 0, 58, 154, 0, 8, 42, 182, 0, 51]
abbrev dktX13_unit_2 : List UInt8 := dkwX13_unit_2 ++ dktX13_unit_3
def dkwX13_unit_1 : List UInt8 := [182, 0, 62, 42, 89, 180, 0, 88, 4, 100, 181, 0, 88, 167, 0, 102, 42, 182, 0, 33, 16, 40]
abbrev dktX13_unit_1 : List UInt8 := dkwX13_unit_1 ++ dktX13_unit_2
def dkwX13_unit_0 : List UInt8 := [42, 182, 0, 33, 16, 33, 160, 0, 33, 42, 182, 0, 91, 42, 182, 0, 83, 42, 180, 0, 12, 6, 3]
abbrev dktX13_unit_0 : List UInt8 := dkwX13_unit_0 ++ dktX13_unit_1
theorem dksX13_unit_0 : cX13_unit.data.toList.drop 0 = dktX13_unit_0 := by decide +kernel
theorem dksX13_unit_1 : cX13_unit.data.toList.drop 23 = dktX13_unit_1 := dk_seg dksX13_unit_0 23 rfl rfl
theorem dksX13_unit_2 : cX13_unit.data.toList.drop 45 = dktX13_unit_2 := dk_seg dksX13_unit_1 22 rfl rfl
theorem dksX13_unit_3 : cX13_unit.data.toList.drop 69 = dktX13_unit_3 := dk_seg dksX13_unit_2 24 rfl rfl
theorem dksX13_unit_4 : cX13_unit.data.toList.drop 91 = dktX13_unit_4 := dk_seg dksX13_unit_3 22 rfl rfl
theorem dksX13_unit_5 : cX13_unit.data.toList.drop 115 = dktX13_unit_5 := dk_seg dksX13_unit_4 24 rfl rfl
theorem dX13_unit_0 : decode cX13_unit 0 = .ok (.aload_n 0, 1) := dk_42 (dk_at dksX13_unit_0 0 rfl rfl)
theorem dX13_unit_1 : decode cX13_unit 1 = .ok (.invokevirtual 33, 3) := dk_182 0 33 (dk_at dksX13_unit_0 1 rfl rfl)
theorem dX13_unit_4 : decode cX13_unit 4 = .ok (.bipush 33, 2) := dk_16 33 (dk_at dksX13_unit_0 4 rfl rfl)
theorem dX13_unit_6 : decode cX13_unit 6 = .ok (.if_icmp .ne 33, 3) := dk_160 0 33 (dk_at dksX13_unit_0 6 rfl rfl)
theorem dX13_unit_9 : decode cX13_unit 9 = .ok (.aload_n 0, 1) := dk_42 (dk_at dksX13_unit_0 9 rfl rfl)
theorem dX13_unit_10 : decode cX13_unit 10 = .ok (.invokevirtual 91, 3) := dk_182 0 91 (dk_at dksX13_unit_0 10 rfl rfl)
theorem dX13_unit_13 : decode cX13_unit 13 = .ok (.aload_n 0, 1) := dk_42 (dk_at dksX13_unit_0 13 rfl rfl)
theorem dX13_unit_14 : decode cX13_unit 14 = .ok (.invokevirtual 83, 3) := dk_182 0 83 (dk_at dksX13_unit_0 14 rfl rfl)
theorem dX13_unit_17 : decode cX13_unit 17 = .ok (.aload_n 0, 1) := dk_42 (dk_at dksX13_unit_0 17 rfl rfl)
theorem dX13_unit_18 : decode cX13_unit 18 = .ok (.getfield 12, 3) := dk_180 0 12 (dk_at dksX13_unit_0 18 rfl rfl)
theorem dX13_unit_21 : decode cX13_unit 21 = .ok (.iconst 3, 1) := dk_6 (dk_at dksX13_unit_0 21 rfl rfl)
theorem dX13_unit_22 : decode cX13_unit 22 = .ok (.iconst 0, 1) := dk_3 (dk_at dksX13_unit_0 22 rfl rfl)
theorem dX13_unit_23 : decode cX13_unit 23 = .ok (.invokevirtual 62, 3) := dk_182 0 62 (dk_at dksX13_unit_1 0 rfl rfl)
theorem dX13_unit_26 : decode cX13_unit 26 = .ok (.aload_n 0, 1) := dk_42 (dk_at dksX13_unit_1 3 rfl rfl)
theorem dX13_unit_27 : decode cX13_unit 27 = .ok (.dup, 1) := dk_89 (dk_at dksX13_unit_1 4 rfl rfl)
theorem dX13_unit_28 : decode cX13_unit 28 = .ok (.getfield 88, 3) := dk_180 0 88 (dk_at dksX13_unit_1 5 rfl rfl)
theorem dX13_unit_31 : decode cX13_unit 31 = .ok (.iconst 1, 1) := dk_4 (dk_at dksX13_unit_1 8 rfl rfl)
theorem dX13_unit_32 : decode cX13_unit 32 = .ok (.isub, 1) := dk_100 (dk_at dksX13_unit_1 9 rfl rfl)
theorem dX13_unit_33 : decode cX13_unit 33 = .ok (.putfield 88, 3) := dk_181 0 88 (dk_at dksX13_unit_1 10 rfl rfl)
theorem dX13_unit_36 : decode cX13_unit 36 = .ok (.goto 102, 3) := dk_167 0 102 (dk_at dksX13_unit_1 13 rfl rfl)
theorem dX13_unit_39 : decode cX13_unit 39 = .ok (.aload_n 0, 1) := dk_42 (dk_at dksX13_unit_1 16 rfl rfl)
theorem dX13_unit_40 : decode cX13_unit 40 = .ok (.invokevirtual 33, 3) := dk_182 0 33 (dk_at dksX13_unit_1 17 rfl rfl)
theorem dX13_unit_43 : decode cX13_unit 43 = .ok (.bipush 40, 2) := dk_16 40 (dk_at dksX13_unit_1 20 rfl rfl)
theorem dX13_unit_45 : decode cX13_unit 45 = .ok (.if_icmp .ne 38, 3) := dk_160 0 38 (dk_at dksX13_unit_2 0 rfl rfl)
theorem dX13_unit_48 : decode cX13_unit 48 = .ok (.aload_n 0, 1) := dk_42 (dk_at dksX13_unit_2 3 rfl rfl)
theorem dX13_unit_49 : decode cX13_unit 49 = .ok (.invokevirtual 91, 3) := dk_182 0 91 (dk_at dksX13_unit_2 4 rfl rfl)
theorem dX13_unit_52 : decode cX13_unit 52 = .ok (.aload_n 0, 1) := dk_42 (dk_at dksX13_unit_2 7 rfl rfl)
theorem dX13_unit_53 : decode cX13_unit 53 = .ok (.invokevirtual 48, 3) := dk_182 0 48 (dk_at dksX13_unit_2 8 rfl rfl)
theorem dX13_unit_56 : decode cX13_unit 56 = .ok (.aload_n 0, 1) := dk_42 (dk_at dksX13_unit_2 11 rfl rfl)
theorem dX13_unit_57 : decode cX13_unit 57 = .ok (.bipush 41, 2) := dk_16 41 (dk_at dksX13_unit_2 12 rfl rfl)
theorem dX13_unit_59 : decode cX13_unit 59 = .ok (.invokevirtual 58, 3) := dk_182 0 58 (dk_at dksX13_unit_2 14 rfl rfl)
theorem dX13_unit_62 : decode cX13_unit 62 = .ok (.ifCond .ne 8, 3) := dk_154 0 8 (dk_at dksX13_unit_2 17 rfl rfl)
theorem dX13_unit_65 : decode cX13_unit 65 = .ok (.aload_n 0, 1) := dk_42 (dk_at dksX13_unit_2 20 rfl rfl)
theorem dX13_unit_66 : decode cX13_unit 66 = .ok (.invokevirtual 51, 3) := dk_182 0 51 (dk_at dksX13_unit_2 21 rfl rfl)
theorem dX13_unit_69 : decode cX13_unit 69 = .ok (.athrow, 1) := dk_191 (dk_at dksX13_unit_3 0 rfl rfl)
theorem dX13_unit_70 : decode cX13_unit 70 = .ok (.aload_n 0, 1) := dk_42 (dk_at dksX13_unit_3 1 rfl rfl)
theorem dX13_unit_71 : decode cX13_unit 71 = .ok (.dup, 1) := dk_89 (dk_at dksX13_unit_3 2 rfl rfl)
theorem dX13_unit_72 : decode cX13_unit 72 = .ok (.getfield 88, 3) := dk_180 0 88 (dk_at dksX13_unit_3 3 rfl rfl)
theorem dX13_unit_75 : decode cX13_unit 75 = .ok (.iconst 1, 1) := dk_4 (dk_at dksX13_unit_3 6 rfl rfl)
theorem dX13_unit_76 : decode cX13_unit 76 = .ok (.isub, 1) := dk_100 (dk_at dksX13_unit_3 7 rfl rfl)
theorem dX13_unit_77 : decode cX13_unit 77 = .ok (.putfield 88, 3) := dk_181 0 88 (dk_at dksX13_unit_3 8 rfl rfl)
theorem dX13_unit_80 : decode cX13_unit 80 = .ok (.goto 58, 3) := dk_167 0 58 (dk_at dksX13_unit_3 11 rfl rfl)
theorem dX13_unit_83 : decode cX13_unit 83 = .ok (.aload_n 0, 1) := dk_42 (dk_at dksX13_unit_3 14 rfl rfl)
theorem dX13_unit_84 : decode cX13_unit 84 = .ok (.aload_n 0, 1) := dk_42 (dk_at dksX13_unit_3 15 rfl rfl)
theorem dX13_unit_85 : decode cX13_unit 85 = .ok (.getfield 26, 3) := dk_180 0 26 (dk_at dksX13_unit_3 16 rfl rfl)
theorem dX13_unit_88 : decode cX13_unit 88 = .ok (.invokevirtual 74, 3) := dk_182 0 74 (dk_at dksX13_unit_3 19 rfl rfl)
theorem dX13_unit_91 : decode cX13_unit 91 = .ok (.ifCond .eq 35, 3) := dk_153 0 35 (dk_at dksX13_unit_4 0 rfl rfl)
theorem dX13_unit_94 : decode cX13_unit 94 = .ok (.aload_n 0, 1) := dk_42 (dk_at dksX13_unit_4 3 rfl rfl)
theorem dX13_unit_95 : decode cX13_unit 95 = .ok (.getfield 12, 3) := dk_180 0 12 (dk_at dksX13_unit_4 4 rfl rfl)
theorem dX13_unit_98 : decode cX13_unit 98 = .ok (.iconst 2, 1) := dk_5 (dk_at dksX13_unit_4 7 rfl rfl)
theorem dX13_unit_99 : decode cX13_unit 99 = .ok (.aload_n 0, 1) := dk_42 (dk_at dksX13_unit_4 8 rfl rfl)
theorem dX13_unit_100 : decode cX13_unit 100 = .ok (.getfield 26, 3) := dk_180 0 26 (dk_at dksX13_unit_4 9 rfl rfl)
theorem dX13_unit_103 : decode cX13_unit 103 = .ok (.aload_n 0, 1) := dk_42 (dk_at dksX13_unit_4 12 rfl rfl)
theorem dX13_unit_104 : decode cX13_unit 104 = .ok (.invokevirtual 33, 3) := dk_182 0 33 (dk_at dksX13_unit_4 13 rfl rfl)
theorem dX13_unit_107 : decode cX13_unit 107 = .ok (.invokevirtual 37, 3) := dk_182 0 37 (dk_at dksX13_unit_4 16 rfl rfl)
theorem dX13_unit_110 : decode cX13_unit 110 = .ok (.invokevirtual 62, 3) := dk_182 0 62 (dk_at dksX13_unit_4 19 rfl rfl)
theorem dX13_unit_113 : decode cX13_unit 113 = .ok (.aload_n 0, 1) := dk_42 (dk_at dksX13_unit_4 22 rfl rfl)
theorem dX13_unit_114 : decode cX13_unit 114 = .ok (.dup, 1) := dk_89 (dk_at dksX13_unit_4 23 rfl rfl)
theorem dX13_unit_115 : decode cX13_unit 115 = .ok (.getfield 30, 3) := dk_180 0 30 (dk_at dksX13_unit_5 0 rfl rfl)
theorem dX13_unit_118 : decode cX13_unit 118 = .ok (.iconst 1, 1) := dk_4 (dk_at dksX13_unit_5 3 rfl rfl)
theorem dX13_unit_119 : decode cX13_unit 119 = .ok (.iadd, 1) := dk_96 (dk_at dksX13_unit_5 4 rfl rfl)
theorem dX13_unit_120 : decode cX13_unit 120 = .ok (.putfield 30, 3) := dk_181 0 30 (dk_at dksX13_unit_5 5 rfl rfl)
theorem dX13_unit_123 : decode cX13_unit 123 = .ok (.goto 15, 3) := dk_167 0 15 (dk_at dksX13_unit_5 8 rfl rfl)
theorem dX13_unit_126 : decode cX13_unit 126 = .ok (.aload_n 0, 1) := dk_42 (dk_at dksX13_unit_5 11 rfl rfl)
theorem dX13_unit_127 : decode cX13_unit 127 = .ok (.getfield 12, 3) := dk_180 0 12 (dk_at dksX13_unit_5 12 rfl rfl)
theorem dX13_unit_130 : decode cX13_unit 130 = .ok (.iconst 1, 1) := dk_4 (dk_at dksX13_unit_5 15 rfl rfl)
theorem dX13_unit_131 : decode cX13_unit 131 = .ok (.aload_n 0, 1) := dk_42 (dk_at dksX13_unit_5 16 rfl rfl)
theorem dX13_unit_132 : decode cX13_unit 132 = .ok (.invokevirtual 94, 3) := dk_182 0 94 (dk_at dksX13_unit_5 17 rfl rfl)
theorem dX13_unit_135 : decode cX13_unit 135 = .ok (.invokevirtual 62, 3) := dk_182 0 62 (dk_at dksX13_unit_5 20 rfl rfl)
theorem dX13_unit_138 : decode cX13_unit 138 = .ok (.return_, 1) := dk_177 (dk_at dksX13_unit_5 23 rfl rfl)
abbrev cX13_here : ByteArray := prog_11_method_2_code
def yX13_here : MethodName := ⟨RX13, "here", "()I"⟩
def dkwX13_here_1 : List UInt8 := [172]
abbrev dktX13_here_1 : List UInt8 := dkwX13_here_1 ++ []
def dkwX13_here_0 : List UInt8 := [42, 180, 0, 30, 42, 180, 0, 22, 162, 0, 15, 42, 180, 0, 18, 42, 180, 0, 30, 51, 167, 0, 4, 2]
abbrev dktX13_here_0 : List UInt8 := dkwX13_here_0 ++ dktX13_here_1
theorem dksX13_here_0 : cX13_here.data.toList.drop 0 = dktX13_here_0 := by decide +kernel
theorem dksX13_here_1 : cX13_here.data.toList.drop 24 = dktX13_here_1 := dk_seg dksX13_here_0 24 rfl rfl
theorem dX13_here_0 : decode cX13_here 0 = .ok (.aload_n 0, 1) := dk_42 (dk_at dksX13_here_0 0 rfl rfl)
theorem dX13_here_1 : decode cX13_here 1 = .ok (.getfield 30, 3) := dk_180 0 30 (dk_at dksX13_here_0 1 rfl rfl)
theorem dX13_here_4 : decode cX13_here 4 = .ok (.aload_n 0, 1) := dk_42 (dk_at dksX13_here_0 4 rfl rfl)
theorem dX13_here_5 : decode cX13_here 5 = .ok (.getfield 22, 3) := dk_180 0 22 (dk_at dksX13_here_0 5 rfl rfl)
theorem dX13_here_8 : decode cX13_here 8 = .ok (.if_icmp .ge 15, 3) := dk_162 0 15 (dk_at dksX13_here_0 8 rfl rfl)
theorem dX13_here_11 : decode cX13_here 11 = .ok (.aload_n 0, 1) := dk_42 (dk_at dksX13_here_0 11 rfl rfl)
theorem dX13_here_12 : decode cX13_here 12 = .ok (.getfield 18, 3) := dk_180 0 18 (dk_at dksX13_here_0 12 rfl rfl)
theorem dX13_here_15 : decode cX13_here 15 = .ok (.aload_n 0, 1) := dk_42 (dk_at dksX13_here_0 15 rfl rfl)
theorem dX13_here_16 : decode cX13_here 16 = .ok (.getfield 30, 3) := dk_180 0 30 (dk_at dksX13_here_0 16 rfl rfl)
theorem dX13_here_19 : decode cX13_here 19 = .ok (.baload, 1) := dk_51 (dk_at dksX13_here_0 19 rfl rfl)
theorem dX13_here_20 : decode cX13_here 20 = .ok (.goto 4, 3) := dk_167 0 4 (dk_at dksX13_here_0 20 rfl rfl)
theorem dX13_here_23 : decode cX13_here 23 = .ok (.iconst (-1), 1) := dk_2 (dk_at dksX13_here_0 23 rfl rfl)
theorem dX13_here_24 : decode cX13_here 24 = .ok (.ireturn, 1) := dk_172 (dk_at dksX13_here_1 0 rfl rfl)
abbrev cX13_opens : ByteArray := prog_11_method_12_code
def yX13_opens : MethodName := ⟨RX13, "opens", "()V"⟩
def dkwX13_opens_1 : List UInt8 := [89, 180, 0, 30, 4, 96, 181, 0, 30, 177]
abbrev dktX13_opens_1 : List UInt8 := dkwX13_opens_1 ++ []
def dkwX13_opens_0 : List UInt8 := [42, 180, 0, 88, 8, 160, 0, 8, 42, 182, 0, 51, 191, 42, 89, 180, 0, 88, 4, 96, 181, 0, 88, 42]
abbrev dktX13_opens_0 : List UInt8 := dkwX13_opens_0 ++ dktX13_opens_1
theorem dksX13_opens_0 : cX13_opens.data.toList.drop 0 = dktX13_opens_0 := by decide +kernel
theorem dksX13_opens_1 : cX13_opens.data.toList.drop 24 = dktX13_opens_1 := dk_seg dksX13_opens_0 24 rfl rfl
theorem dX13_opens_0 : decode cX13_opens 0 = .ok (.aload_n 0, 1) := dk_42 (dk_at dksX13_opens_0 0 rfl rfl)
theorem dX13_opens_1 : decode cX13_opens 1 = .ok (.getfield 88, 3) := dk_180 0 88 (dk_at dksX13_opens_0 1 rfl rfl)
theorem dX13_opens_4 : decode cX13_opens 4 = .ok (.iconst 5, 1) := dk_8 (dk_at dksX13_opens_0 4 rfl rfl)
theorem dX13_opens_5 : decode cX13_opens 5 = .ok (.if_icmp .ne 8, 3) := dk_160 0 8 (dk_at dksX13_opens_0 5 rfl rfl)
theorem dX13_opens_8 : decode cX13_opens 8 = .ok (.aload_n 0, 1) := dk_42 (dk_at dksX13_opens_0 8 rfl rfl)
theorem dX13_opens_9 : decode cX13_opens 9 = .ok (.invokevirtual 51, 3) := dk_182 0 51 (dk_at dksX13_opens_0 9 rfl rfl)
theorem dX13_opens_12 : decode cX13_opens 12 = .ok (.athrow, 1) := dk_191 (dk_at dksX13_opens_0 12 rfl rfl)
theorem dX13_opens_13 : decode cX13_opens 13 = .ok (.aload_n 0, 1) := dk_42 (dk_at dksX13_opens_0 13 rfl rfl)
theorem dX13_opens_14 : decode cX13_opens 14 = .ok (.dup, 1) := dk_89 (dk_at dksX13_opens_0 14 rfl rfl)
theorem dX13_opens_15 : decode cX13_opens 15 = .ok (.getfield 88, 3) := dk_180 0 88 (dk_at dksX13_opens_0 15 rfl rfl)
theorem dX13_opens_18 : decode cX13_opens 18 = .ok (.iconst 1, 1) := dk_4 (dk_at dksX13_opens_0 18 rfl rfl)
theorem dX13_opens_19 : decode cX13_opens 19 = .ok (.iadd, 1) := dk_96 (dk_at dksX13_opens_0 19 rfl rfl)
theorem dX13_opens_20 : decode cX13_opens 20 = .ok (.putfield 88, 3) := dk_181 0 88 (dk_at dksX13_opens_0 20 rfl rfl)
theorem dX13_opens_23 : decode cX13_opens 23 = .ok (.aload_n 0, 1) := dk_42 (dk_at dksX13_opens_0 23 rfl rfl)
theorem dX13_opens_24 : decode cX13_opens 24 = .ok (.dup, 1) := dk_89 (dk_at dksX13_opens_1 0 rfl rfl)
theorem dX13_opens_25 : decode cX13_opens 25 = .ok (.getfield 30, 3) := dk_180 0 30 (dk_at dksX13_opens_1 1 rfl rfl)
theorem dX13_opens_28 : decode cX13_opens 28 = .ok (.iconst 1, 1) := dk_4 (dk_at dksX13_opens_1 4 rfl rfl)
theorem dX13_opens_29 : decode cX13_opens 29 = .ok (.iadd, 1) := dk_96 (dk_at dksX13_opens_1 5 rfl rfl)
theorem dX13_opens_30 : decode cX13_opens 30 = .ok (.putfield 30, 3) := dk_181 0 30 (dk_at dksX13_opens_1 6 rfl rfl)
theorem dX13_opens_33 : decode cX13_opens 33 = .ok (.return_, 1) := dk_177 (dk_at dksX13_opens_1 9 rfl rfl)
abbrev cX13_wrong : ByteArray := prog_11_method_5_code
def yX13_wrong : MethodName := ⟨RX13, "wrong", "()LFigureTill$Fault;"⟩
def dkwX13_wrong_0 : List UInt8 := [187, 0, 43, 89, 42, 180, 0, 30, 183, 0, 45, 176]
abbrev dktX13_wrong_0 : List UInt8 := dkwX13_wrong_0 ++ []
theorem dksX13_wrong_0 : cX13_wrong.data.toList.drop 0 = dktX13_wrong_0 := by decide +kernel
theorem dX13_wrong_0 : decode cX13_wrong 0 = .ok (.new 43, 3) := dk_187 0 43 (dk_at dksX13_wrong_0 0 rfl rfl)
theorem dX13_wrong_3 : decode cX13_wrong 3 = .ok (.dup, 1) := dk_89 (dk_at dksX13_wrong_0 3 rfl rfl)
theorem dX13_wrong_4 : decode cX13_wrong 4 = .ok (.aload_n 0, 1) := dk_42 (dk_at dksX13_wrong_0 4 rfl rfl)
theorem dX13_wrong_5 : decode cX13_wrong 5 = .ok (.getfield 30, 3) := dk_180 0 30 (dk_at dksX13_wrong_0 5 rfl rfl)
theorem dX13_wrong_8 : decode cX13_wrong 8 = .ok (.invokespecial 45, 3) := dk_183 0 45 (dk_at dksX13_wrong_0 8 rfl rfl)
theorem dX13_wrong_11 : decode cX13_wrong 11 = .ok (.areturn, 1) := dk_176 (dk_at dksX13_wrong_0 11 rfl rfl)
abbrev cX13_takes : ByteArray := prog_11_method_3_code
def yX13_takes : MethodName := ⟨RX13, "takes", "(I)Z"⟩
def dkwX13_takes_1 : List UInt8 := [167, 0, 4, 3, 96, 181, 0, 30, 28, 172]
abbrev dktX13_takes_1 : List UInt8 := dkwX13_takes_1 ++ []
def dkwX13_takes_0 : List UInt8 := [42, 182, 0, 33, 27, 160, 0, 7, 4, 167, 0, 4, 3, 61, 42, 89, 180, 0, 30, 28, 153, 0, 7, 4]
abbrev dktX13_takes_0 : List UInt8 := dkwX13_takes_0 ++ dktX13_takes_1
theorem dksX13_takes_0 : cX13_takes.data.toList.drop 0 = dktX13_takes_0 := by decide +kernel
theorem dksX13_takes_1 : cX13_takes.data.toList.drop 24 = dktX13_takes_1 := dk_seg dksX13_takes_0 24 rfl rfl
theorem dX13_takes_0 : decode cX13_takes 0 = .ok (.aload_n 0, 1) := dk_42 (dk_at dksX13_takes_0 0 rfl rfl)
theorem dX13_takes_1 : decode cX13_takes 1 = .ok (.invokevirtual 33, 3) := dk_182 0 33 (dk_at dksX13_takes_0 1 rfl rfl)
theorem dX13_takes_4 : decode cX13_takes 4 = .ok (.iload_n 1, 1) := dk_27 (dk_at dksX13_takes_0 4 rfl rfl)
theorem dX13_takes_5 : decode cX13_takes 5 = .ok (.if_icmp .ne 7, 3) := dk_160 0 7 (dk_at dksX13_takes_0 5 rfl rfl)
theorem dX13_takes_8 : decode cX13_takes 8 = .ok (.iconst 1, 1) := dk_4 (dk_at dksX13_takes_0 8 rfl rfl)
theorem dX13_takes_9 : decode cX13_takes 9 = .ok (.goto 4, 3) := dk_167 0 4 (dk_at dksX13_takes_0 9 rfl rfl)
theorem dX13_takes_12 : decode cX13_takes 12 = .ok (.iconst 0, 1) := dk_3 (dk_at dksX13_takes_0 12 rfl rfl)
theorem dX13_takes_13 : decode cX13_takes 13 = .ok (.istore_n 2, 1) := dk_61 (dk_at dksX13_takes_0 13 rfl rfl)
theorem dX13_takes_14 : decode cX13_takes 14 = .ok (.aload_n 0, 1) := dk_42 (dk_at dksX13_takes_0 14 rfl rfl)
theorem dX13_takes_15 : decode cX13_takes 15 = .ok (.dup, 1) := dk_89 (dk_at dksX13_takes_0 15 rfl rfl)
theorem dX13_takes_16 : decode cX13_takes 16 = .ok (.getfield 30, 3) := dk_180 0 30 (dk_at dksX13_takes_0 16 rfl rfl)
theorem dX13_takes_19 : decode cX13_takes 19 = .ok (.iload_n 2, 1) := dk_28 (dk_at dksX13_takes_0 19 rfl rfl)
theorem dX13_takes_20 : decode cX13_takes 20 = .ok (.ifCond .eq 7, 3) := dk_153 0 7 (dk_at dksX13_takes_0 20 rfl rfl)
theorem dX13_takes_23 : decode cX13_takes 23 = .ok (.iconst 1, 1) := dk_4 (dk_at dksX13_takes_0 23 rfl rfl)
theorem dX13_takes_24 : decode cX13_takes 24 = .ok (.goto 4, 3) := dk_167 0 4 (dk_at dksX13_takes_1 0 rfl rfl)
theorem dX13_takes_27 : decode cX13_takes 27 = .ok (.iconst 0, 1) := dk_3 (dk_at dksX13_takes_1 3 rfl rfl)
theorem dX13_takes_28 : decode cX13_takes 28 = .ok (.iadd, 1) := dk_96 (dk_at dksX13_takes_1 4 rfl rfl)
theorem dX13_takes_29 : decode cX13_takes 29 = .ok (.putfield 30, 3) := dk_181 0 30 (dk_at dksX13_takes_1 5 rfl rfl)
theorem dX13_takes_32 : decode cX13_takes 32 = .ok (.iload_n 2, 1) := dk_28 (dk_at dksX13_takes_1 8 rfl rfl)
theorem dX13_takes_33 : decode cX13_takes 33 = .ok (.ireturn, 1) := dk_172 (dk_at dksX13_takes_1 9 rfl rfl)
abbrev cX13_isOneOf : ByteArray := prog_11_method_4_code
def yX13_isOneOf : MethodName := ⟨RX13, "isOneOf", "(Ljava/lang/String;)Z"⟩
def dkwX13_isOneOf_0 : List UInt8 := [42, 182, 0, 33, 155, 0, 18, 43, 42, 182, 0, 33, 182, 0, 37, 155, 0, 7, 4, 167, 0, 4, 3, 172]
abbrev dktX13_isOneOf_0 : List UInt8 := dkwX13_isOneOf_0 ++ []
theorem dksX13_isOneOf_0 : cX13_isOneOf.data.toList.drop 0 = dktX13_isOneOf_0 := by decide +kernel
theorem dX13_isOneOf_0 : decode cX13_isOneOf 0 = .ok (.aload_n 0, 1) := dk_42 (dk_at dksX13_isOneOf_0 0 rfl rfl)
theorem dX13_isOneOf_1 : decode cX13_isOneOf 1 = .ok (.invokevirtual 33, 3) := dk_182 0 33 (dk_at dksX13_isOneOf_0 1 rfl rfl)
theorem dX13_isOneOf_4 : decode cX13_isOneOf 4 = .ok (.ifCond .lt 18, 3) := dk_155 0 18 (dk_at dksX13_isOneOf_0 4 rfl rfl)
theorem dX13_isOneOf_7 : decode cX13_isOneOf 7 = .ok (.aload_n 1, 1) := dk_43 (dk_at dksX13_isOneOf_0 7 rfl rfl)
theorem dX13_isOneOf_8 : decode cX13_isOneOf 8 = .ok (.aload_n 0, 1) := dk_42 (dk_at dksX13_isOneOf_0 8 rfl rfl)
theorem dX13_isOneOf_9 : decode cX13_isOneOf 9 = .ok (.invokevirtual 33, 3) := dk_182 0 33 (dk_at dksX13_isOneOf_0 9 rfl rfl)
theorem dX13_isOneOf_12 : decode cX13_isOneOf 12 = .ok (.invokevirtual 37, 3) := dk_182 0 37 (dk_at dksX13_isOneOf_0 12 rfl rfl)
theorem dX13_isOneOf_15 : decode cX13_isOneOf 15 = .ok (.ifCond .lt 7, 3) := dk_155 0 7 (dk_at dksX13_isOneOf_0 15 rfl rfl)
theorem dX13_isOneOf_18 : decode cX13_isOneOf 18 = .ok (.iconst 1, 1) := dk_4 (dk_at dksX13_isOneOf_0 18 rfl rfl)
theorem dX13_isOneOf_19 : decode cX13_isOneOf 19 = .ok (.goto 4, 3) := dk_167 0 4 (dk_at dksX13_isOneOf_0 19 rfl rfl)
theorem dX13_isOneOf_22 : decode cX13_isOneOf 22 = .ok (.iconst 0, 1) := dk_3 (dk_at dksX13_isOneOf_0 22 rfl rfl)
theorem dX13_isOneOf_23 : decode cX13_isOneOf 23 = .ok (.ireturn, 1) := dk_172 (dk_at dksX13_isOneOf_0 23 rfl rfl)
abbrev cX13_number : ByteArray := prog_11_method_14_code
def yX13_number : MethodName := ⟨RX13, "number", "()I"⟩
def dkwX13_number_2 : List UInt8 := [132, 2, 1, 167, 255, 211, 28, 154, 0, 8, 42, 182, 0, 51, 191, 27, 172]
abbrev dktX13_number_2 : List UInt8 := dkwX13_number_2 ++ []
def dkwX13_number_1 : List UInt8 := [16, 10, 27, 104, 42, 182, 0, 33, 96, 16, 48, 100, 60, 42, 89, 180, 0, 30, 4, 96, 181, 0, 30]
abbrev dktX13_number_1 : List UInt8 := dkwX13_number_1 ++ dktX13_number_2
def dkwX13_number_0 : List UInt8 := [3, 60, 3, 61, 28, 7, 162, 0, 46, 42, 182, 0, 33, 16, 48, 16, 57, 184, 0, 97, 153, 0, 32]
abbrev dktX13_number_0 : List UInt8 := dkwX13_number_0 ++ dktX13_number_1
theorem dksX13_number_0 : cX13_number.data.toList.drop 0 = dktX13_number_0 := by decide +kernel
theorem dksX13_number_1 : cX13_number.data.toList.drop 23 = dktX13_number_1 := dk_seg dksX13_number_0 23 rfl rfl
theorem dksX13_number_2 : cX13_number.data.toList.drop 46 = dktX13_number_2 := dk_seg dksX13_number_1 23 rfl rfl
theorem dX13_number_0 : decode cX13_number 0 = .ok (.iconst 0, 1) := dk_3 (dk_at dksX13_number_0 0 rfl rfl)
theorem dX13_number_1 : decode cX13_number 1 = .ok (.istore_n 1, 1) := dk_60 (dk_at dksX13_number_0 1 rfl rfl)
theorem dX13_number_2 : decode cX13_number 2 = .ok (.iconst 0, 1) := dk_3 (dk_at dksX13_number_0 2 rfl rfl)
theorem dX13_number_3 : decode cX13_number 3 = .ok (.istore_n 2, 1) := dk_61 (dk_at dksX13_number_0 3 rfl rfl)
theorem dX13_number_4 : decode cX13_number 4 = .ok (.iload_n 2, 1) := dk_28 (dk_at dksX13_number_0 4 rfl rfl)
theorem dX13_number_5 : decode cX13_number 5 = .ok (.iconst 4, 1) := dk_7 (dk_at dksX13_number_0 5 rfl rfl)
theorem dX13_number_6 : decode cX13_number 6 = .ok (.if_icmp .ge 46, 3) := dk_162 0 46 (dk_at dksX13_number_0 6 rfl rfl)
theorem dX13_number_9 : decode cX13_number 9 = .ok (.aload_n 0, 1) := dk_42 (dk_at dksX13_number_0 9 rfl rfl)
theorem dX13_number_10 : decode cX13_number 10 = .ok (.invokevirtual 33, 3) := dk_182 0 33 (dk_at dksX13_number_0 10 rfl rfl)
theorem dX13_number_13 : decode cX13_number 13 = .ok (.bipush 48, 2) := dk_16 48 (dk_at dksX13_number_0 13 rfl rfl)
theorem dX13_number_15 : decode cX13_number 15 = .ok (.bipush 57, 2) := dk_16 57 (dk_at dksX13_number_0 15 rfl rfl)
theorem dX13_number_17 : decode cX13_number 17 = .ok (.invokestatic 97, 3) := dk_184 0 97 (dk_at dksX13_number_0 17 rfl rfl)
theorem dX13_number_20 : decode cX13_number 20 = .ok (.ifCond .eq 32, 3) := dk_153 0 32 (dk_at dksX13_number_0 20 rfl rfl)
theorem dX13_number_23 : decode cX13_number 23 = .ok (.bipush 10, 2) := dk_16 10 (dk_at dksX13_number_1 0 rfl rfl)
theorem dX13_number_25 : decode cX13_number 25 = .ok (.iload_n 1, 1) := dk_27 (dk_at dksX13_number_1 2 rfl rfl)
theorem dX13_number_26 : decode cX13_number 26 = .ok (.imul, 1) := dk_104 (dk_at dksX13_number_1 3 rfl rfl)
theorem dX13_number_27 : decode cX13_number 27 = .ok (.aload_n 0, 1) := dk_42 (dk_at dksX13_number_1 4 rfl rfl)
theorem dX13_number_28 : decode cX13_number 28 = .ok (.invokevirtual 33, 3) := dk_182 0 33 (dk_at dksX13_number_1 5 rfl rfl)
theorem dX13_number_31 : decode cX13_number 31 = .ok (.iadd, 1) := dk_96 (dk_at dksX13_number_1 8 rfl rfl)
theorem dX13_number_32 : decode cX13_number 32 = .ok (.bipush 48, 2) := dk_16 48 (dk_at dksX13_number_1 9 rfl rfl)
theorem dX13_number_34 : decode cX13_number 34 = .ok (.isub, 1) := dk_100 (dk_at dksX13_number_1 11 rfl rfl)
theorem dX13_number_35 : decode cX13_number 35 = .ok (.istore_n 1, 1) := dk_60 (dk_at dksX13_number_1 12 rfl rfl)
theorem dX13_number_36 : decode cX13_number 36 = .ok (.aload_n 0, 1) := dk_42 (dk_at dksX13_number_1 13 rfl rfl)
theorem dX13_number_37 : decode cX13_number 37 = .ok (.dup, 1) := dk_89 (dk_at dksX13_number_1 14 rfl rfl)
theorem dX13_number_38 : decode cX13_number 38 = .ok (.getfield 30, 3) := dk_180 0 30 (dk_at dksX13_number_1 15 rfl rfl)
theorem dX13_number_41 : decode cX13_number 41 = .ok (.iconst 1, 1) := dk_4 (dk_at dksX13_number_1 18 rfl rfl)
theorem dX13_number_42 : decode cX13_number 42 = .ok (.iadd, 1) := dk_96 (dk_at dksX13_number_1 19 rfl rfl)
theorem dX13_number_43 : decode cX13_number 43 = .ok (.putfield 30, 3) := dk_181 0 30 (dk_at dksX13_number_1 20 rfl rfl)
theorem dX13_number_46 : decode cX13_number 46 = .ok (.iinc 2 1, 3) := dk_132 2 1 (dk_at dksX13_number_2 0 rfl rfl)
theorem dX13_number_49 : decode cX13_number 49 = .ok (.goto (-45), 3) := dk_167 255 211 (dk_at dksX13_number_2 3 rfl rfl)
theorem dX13_number_52 : decode cX13_number 52 = .ok (.iload_n 2, 1) := dk_28 (dk_at dksX13_number_2 6 rfl rfl)
theorem dX13_number_53 : decode cX13_number 53 = .ok (.ifCond .ne 8, 3) := dk_154 0 8 (dk_at dksX13_number_2 7 rfl rfl)
theorem dX13_number_56 : decode cX13_number 56 = .ok (.aload_n 0, 1) := dk_42 (dk_at dksX13_number_2 10 rfl rfl)
theorem dX13_number_57 : decode cX13_number 57 = .ok (.invokevirtual 51, 3) := dk_182 0 51 (dk_at dksX13_number_2 11 rfl rfl)
theorem dX13_number_60 : decode cX13_number 60 = .ok (.athrow, 1) := dk_191 (dk_at dksX13_number_2 14 rfl rfl)
theorem dX13_number_61 : decode cX13_number 61 = .ok (.iload_n 1, 1) := dk_27 (dk_at dksX13_number_2 15 rfl rfl)
theorem dX13_number_62 : decode cX13_number 62 = .ok (.ireturn, 1) := dk_172 (dk_at dksX13_number_2 16 rfl rfl)
theorem q83 : (Jvm.Cond.initialized "FigureTill$Reader") ∈ lw_all := lw_g (lw_at lw_m1 15 rfl) rfl
theorem q541 : (Jvm.Cond.instantiable "FigureTill$Reader" (6 : Nat)) ∈ lw_all := lw_g (lw_at lw_m2 233 rfl) rfl
theorem q548 : (Jvm.Cond.instanceMethod ({ cls := "FigureTill$Reader", name := "<init>", desc := "([BILjava/lang/String;)V" } : Jvm.MethodName)) ∈ lw_all := lw_g (lw_at lw_m3 0 rfl) rfl
theorem q549 : (Jvm.Cond.code ({ cls := "FigureTill$Reader", name := "<init>", desc := "([BILjava/lang/String;)V" } : Jvm.MethodName) prog_11_method_1_code (4 : Nat) (Option.none : Option Jvm.ClassFile.FieldType)) ∈ lw_all := lw_g (lw_at lw_m3 1 rfl) rfl
theorem q550 : (Jvm.Cond.methodLink "FigureTill$Reader" (3 : Nat) ({ cls := "java/lang/Object", name := "<init>", desc := "()V" } : Jvm.MethodName)) ∈ lw_all := lw_g (lw_at lw_m3 2 rfl) rfl
theorem q551 : (Jvm.Cond.classLink "FigureTill$Reader" (9 : Nat) "FigureTill$Text") ∈ lw_all := lw_g (lw_at lw_m3 3 rfl) rfl
theorem q553 : (Jvm.Cond.methodLinkNest "FigureTill$Reader" (11 : Nat) ({ cls := "FigureTill$Text", name := "<init>", desc := "()V" } : Jvm.MethodName) "FigureTill") ∈ lw_tbl := lw_at lw_m3 5 rfl
theorem q571 : (Jvm.Cond.fieldLink "FigureTill$Reader" (18 : Nat) "FigureTill$Reader" "tape" "[B") ∈ lw_all := lw_g (lw_at lw_m3 23 rfl) rfl
theorem q572 : (Jvm.Cond.fieldLink "FigureTill$Reader" (22 : Nat) "FigureTill$Reader" "size" "I") ∈ lw_all := lw_g (lw_at lw_m3 24 rfl) rfl
theorem q573 : (Jvm.Cond.fieldLink "FigureTill$Reader" (26 : Nat) "FigureTill$Reader" "names" "Ljava/lang/String;") ∈ lw_all := lw_g (lw_at lw_m3 25 rfl) rfl
theorem q574 : (Jvm.Cond.fieldLink "FigureTill$Reader" (12 : Nat) "FigureTill$Reader" "text" "LFigureTill$Text;") ∈ lw_all := lw_g (lw_at lw_m3 26 rfl) rfl
theorem q575 : (Jvm.Cond.fieldLink "FigureTill$Reader" (30 : Nat) "FigureTill$Reader" "at" "I") ∈ lw_all := lw_g (lw_at lw_m3 27 rfl) rfl
theorem q576 : (Jvm.Cond.fieldLink "FigureTill$Reader" (88 : Nat) "FigureTill$Reader" "open" "I") ∈ lw_all := lw_g (lw_at lw_m3 28 rfl) rfl
theorem q577 : (Jvm.Cond.laysFinal "FigureTill$Reader" "FigureTill$Reader" "tape" "[B") ∈ lw_all := lw_g (lw_at lw_m3 29 rfl) rfl
theorem q578 : (Jvm.Cond.soleField "FigureTill$Reader" "tape") ∈ lw_all := lw_g (lw_at lw_m3 30 rfl) rfl
theorem q579 : (Jvm.Cond.laysFinal "FigureTill$Reader" "FigureTill$Reader" "size" "I") ∈ lw_all := lw_g (lw_at lw_m3 31 rfl) rfl
theorem q580 : (Jvm.Cond.soleField "FigureTill$Reader" "size") ∈ lw_all := lw_g (lw_at lw_m3 32 rfl) rfl
theorem q581 : (Jvm.Cond.laysFinal "FigureTill$Reader" "FigureTill$Reader" "names" "Ljava/lang/String;") ∈ lw_all := lw_g (lw_at lw_m3 33 rfl) rfl
theorem q582 : (Jvm.Cond.soleField "FigureTill$Reader" "names") ∈ lw_all := lw_g (lw_at lw_m3 34 rfl) rfl
theorem q583 : (Jvm.Cond.laysFinal "FigureTill$Reader" "FigureTill$Reader" "text" "LFigureTill$Text;") ∈ lw_all := lw_g (lw_at lw_m3 35 rfl) rfl
theorem q584 : (Jvm.Cond.soleField "FigureTill$Reader" "text") ∈ lw_all := lw_g (lw_at lw_m3 36 rfl) rfl
theorem q585 : (Jvm.Cond.lays "FigureTill$Reader" "FigureTill$Reader" "at" "I") ∈ lw_all := lw_g (lw_at lw_m3 37 rfl) rfl
theorem q586 : (Jvm.Cond.soleField "FigureTill$Reader" "at") ∈ lw_all := lw_g (lw_at lw_m3 38 rfl) rfl
theorem q587 : (Jvm.Cond.lays "FigureTill$Reader" "FigureTill$Reader" "open" "I") ∈ lw_all := lw_g (lw_at lw_m3 39 rfl) rfl
theorem q588 : (Jvm.Cond.soleField "FigureTill$Reader" "open") ∈ lw_all := lw_g (lw_at lw_m3 40 rfl) rfl
theorem q589 : (Jvm.Cond.superclass "FigureTill$Reader" "java/lang/Object") ∈ lw_all := lw_g (lw_at lw_m3 41 rfl) rfl
theorem q591 : (Jvm.Cond.instanceMethod ({ cls := "FigureTill$Reader", name := "read", desc := "()LFigureTill$Text;" } : Jvm.MethodName)) ∈ lw_all := lw_g (lw_at lw_m3 43 rfl) rfl
theorem q592 : (Jvm.Cond.selects "FigureTill$Reader" ({ cls := "FigureTill$Reader", name := "read", desc := "()LFigureTill$Text;" } : Jvm.MethodName) ({ cls := "FigureTill$Reader", name := "read", desc := "()LFigureTill$Text;" } : Jvm.MethodName)) ∈ lw_all := lw_g (lw_at lw_m3 44 rfl) rfl
theorem q593 : (Jvm.Cond.code ({ cls := "FigureTill$Reader", name := "read", desc := "()LFigureTill$Text;" } : Jvm.MethodName) prog_11_method_6_code (1 : Nat) (Option.some (Jvm.ClassFile.FieldType.object "FigureTill$Text"))) ∈ lw_all := lw_g (lw_at lw_m3 45 rfl) rfl
theorem q594 : (Jvm.Cond.methodLink "FigureTill$Reader" (48 : Nat) ({ cls := "FigureTill$Reader", name := "either", desc := "()V" } : Jvm.MethodName)) ∈ lw_all := lw_g (lw_at lw_m3 46 rfl) rfl
theorem q595 : (Jvm.Cond.privateMethod ({ cls := "FigureTill$Reader", name := "either", desc := "()V" } : Jvm.MethodName)) ∈ lw_tbl := lw_at lw_m3 47 rfl
theorem q596 : (Jvm.Cond.instanceMethod ({ cls := "FigureTill$Reader", name := "either", desc := "()V" } : Jvm.MethodName)) ∈ lw_all := lw_g (lw_at lw_m3 48 rfl) rfl
theorem q597 : (Jvm.Cond.code ({ cls := "FigureTill$Reader", name := "either", desc := "()V" } : Jvm.MethodName) prog_11_method_7_code (1 : Nat) (Option.none : Option Jvm.ClassFile.FieldType)) ∈ lw_all := lw_g (lw_at lw_m3 49 rfl) rfl
theorem q598 : (Jvm.Cond.methodLink "FigureTill$Reader" (55 : Nat) ({ cls := "FigureTill$Reader", name := "both", desc := "()V" } : Jvm.MethodName)) ∈ lw_all := lw_g (lw_at lw_m3 50 rfl) rfl
theorem q599 : (Jvm.Cond.privateMethod ({ cls := "FigureTill$Reader", name := "both", desc := "()V" } : Jvm.MethodName)) ∈ lw_tbl := lw_at lw_m3 51 rfl
theorem q600 : (Jvm.Cond.instanceMethod ({ cls := "FigureTill$Reader", name := "both", desc := "()V" } : Jvm.MethodName)) ∈ lw_all := lw_g (lw_at lw_m3 52 rfl) rfl
theorem q601 : (Jvm.Cond.code ({ cls := "FigureTill$Reader", name := "both", desc := "()V" } : Jvm.MethodName) prog_11_method_8_code (1 : Nat) (Option.none : Option Jvm.ClassFile.FieldType)) ∈ lw_all := lw_g (lw_at lw_m3 53 rfl) rfl
theorem q602 : (Jvm.Cond.methodLink "FigureTill$Reader" (66 : Nat) ({ cls := "FigureTill$Reader", name := "compared", desc := "()V" } : Jvm.MethodName)) ∈ lw_all := lw_g (lw_at lw_m3 54 rfl) rfl
theorem q603 : (Jvm.Cond.privateMethod ({ cls := "FigureTill$Reader", name := "compared", desc := "()V" } : Jvm.MethodName)) ∈ lw_tbl := lw_at lw_m3 55 rfl
theorem q604 : (Jvm.Cond.instanceMethod ({ cls := "FigureTill$Reader", name := "compared", desc := "()V" } : Jvm.MethodName)) ∈ lw_all := lw_g (lw_at lw_m3 56 rfl) rfl
theorem q605 : (Jvm.Cond.code ({ cls := "FigureTill$Reader", name := "compared", desc := "()V" } : Jvm.MethodName) prog_11_method_9_code (2 : Nat) (Option.none : Option Jvm.ClassFile.FieldType)) ∈ lw_all := lw_g (lw_at lw_m3 57 rfl) rfl
theorem q606 : (Jvm.Cond.methodLink "FigureTill$Reader" (69 : Nat) ({ cls := "FigureTill$Reader", name := "sum", desc := "()V" } : Jvm.MethodName)) ∈ lw_all := lw_g (lw_at lw_m3 58 rfl) rfl
theorem q607 : (Jvm.Cond.privateMethod ({ cls := "FigureTill$Reader", name := "sum", desc := "()V" } : Jvm.MethodName)) ∈ lw_tbl := lw_at lw_m3 59 rfl
theorem q608 : (Jvm.Cond.instanceMethod ({ cls := "FigureTill$Reader", name := "sum", desc := "()V" } : Jvm.MethodName)) ∈ lw_all := lw_g (lw_at lw_m3 60 rfl) rfl
theorem q609 : (Jvm.Cond.code ({ cls := "FigureTill$Reader", name := "sum", desc := "()V" } : Jvm.MethodName) prog_11_method_10_code (2 : Nat) (Option.none : Option Jvm.ClassFile.FieldType)) ∈ lw_all := lw_g (lw_at lw_m3 61 rfl) rfl
theorem q610 : (Jvm.Cond.methodLink "FigureTill$Reader" (78 : Nat) ({ cls := "FigureTill$Reader", name := "product", desc := "()V" } : Jvm.MethodName)) ∈ lw_all := lw_g (lw_at lw_m3 62 rfl) rfl
theorem q611 : (Jvm.Cond.privateMethod ({ cls := "FigureTill$Reader", name := "product", desc := "()V" } : Jvm.MethodName)) ∈ lw_tbl := lw_at lw_m3 63 rfl
theorem q612 : (Jvm.Cond.instanceMethod ({ cls := "FigureTill$Reader", name := "product", desc := "()V" } : Jvm.MethodName)) ∈ lw_all := lw_g (lw_at lw_m3 64 rfl) rfl
theorem q613 : (Jvm.Cond.code ({ cls := "FigureTill$Reader", name := "product", desc := "()V" } : Jvm.MethodName) prog_11_method_11_code (2 : Nat) (Option.none : Option Jvm.ClassFile.FieldType)) ∈ lw_all := lw_g (lw_at lw_m3 65 rfl) rfl
theorem q614 : (Jvm.Cond.methodLink "FigureTill$Reader" (83 : Nat) ({ cls := "FigureTill$Reader", name := "unit", desc := "()V" } : Jvm.MethodName)) ∈ lw_all := lw_g (lw_at lw_m3 66 rfl) rfl
theorem q615 : (Jvm.Cond.privateMethod ({ cls := "FigureTill$Reader", name := "unit", desc := "()V" } : Jvm.MethodName)) ∈ lw_tbl := lw_at lw_m3 67 rfl
theorem q616 : (Jvm.Cond.instanceMethod ({ cls := "FigureTill$Reader", name := "unit", desc := "()V" } : Jvm.MethodName)) ∈ lw_all := lw_g (lw_at lw_m3 68 rfl) rfl
theorem q617 : (Jvm.Cond.code ({ cls := "FigureTill$Reader", name := "unit", desc := "()V" } : Jvm.MethodName) prog_11_method_13_code (1 : Nat) (Option.none : Option Jvm.ClassFile.FieldType)) ∈ lw_all := lw_g (lw_at lw_m3 69 rfl) rfl
theorem q618 : (Jvm.Cond.methodLink "FigureTill$Reader" (33 : Nat) ({ cls := "FigureTill$Reader", name := "here", desc := "()I" } : Jvm.MethodName)) ∈ lw_all := lw_g (lw_at lw_m3 70 rfl) rfl
theorem q619 : (Jvm.Cond.privateMethod ({ cls := "FigureTill$Reader", name := "here", desc := "()I" } : Jvm.MethodName)) ∈ lw_tbl := lw_at lw_m3 71 rfl
theorem q620 : (Jvm.Cond.instanceMethod ({ cls := "FigureTill$Reader", name := "here", desc := "()I" } : Jvm.MethodName)) ∈ lw_all := lw_g (lw_at lw_m3 72 rfl) rfl
theorem q621 : (Jvm.Cond.code ({ cls := "FigureTill$Reader", name := "here", desc := "()I" } : Jvm.MethodName) prog_11_method_2_code (1 : Nat) (Option.some Jvm.ClassFile.FieldType.int)) ∈ lw_all := lw_g (lw_at lw_m3 73 rfl) rfl
theorem q622 : (Jvm.Cond.methodLink "FigureTill$Reader" (91 : Nat) ({ cls := "FigureTill$Reader", name := "opens", desc := "()V" } : Jvm.MethodName)) ∈ lw_all := lw_g (lw_at lw_m3 74 rfl) rfl
theorem q623 : (Jvm.Cond.privateMethod ({ cls := "FigureTill$Reader", name := "opens", desc := "()V" } : Jvm.MethodName)) ∈ lw_tbl := lw_at lw_m3 75 rfl
theorem q624 : (Jvm.Cond.instanceMethod ({ cls := "FigureTill$Reader", name := "opens", desc := "()V" } : Jvm.MethodName)) ∈ lw_all := lw_g (lw_at lw_m3 76 rfl) rfl
theorem q625 : (Jvm.Cond.code ({ cls := "FigureTill$Reader", name := "opens", desc := "()V" } : Jvm.MethodName) prog_11_method_12_code (1 : Nat) (Option.none : Option Jvm.ClassFile.FieldType)) ∈ lw_all := lw_g (lw_at lw_m3 77 rfl) rfl
theorem q626 : (Jvm.Cond.methodLink "FigureTill$Reader" (51 : Nat) ({ cls := "FigureTill$Reader", name := "wrong", desc := "()LFigureTill$Fault;" } : Jvm.MethodName)) ∈ lw_all := lw_g (lw_at lw_m3 78 rfl) rfl
theorem q627 : (Jvm.Cond.privateMethod ({ cls := "FigureTill$Reader", name := "wrong", desc := "()LFigureTill$Fault;" } : Jvm.MethodName)) ∈ lw_tbl := lw_at lw_m3 79 rfl
theorem q628 : (Jvm.Cond.instanceMethod ({ cls := "FigureTill$Reader", name := "wrong", desc := "()LFigureTill$Fault;" } : Jvm.MethodName)) ∈ lw_all := lw_g (lw_at lw_m3 80 rfl) rfl
theorem q629 : (Jvm.Cond.code ({ cls := "FigureTill$Reader", name := "wrong", desc := "()LFigureTill$Fault;" } : Jvm.MethodName) prog_11_method_5_code (1 : Nat) (Option.some (Jvm.ClassFile.FieldType.object "FigureTill$Fault"))) ∈ lw_all := lw_g (lw_at lw_m3 81 rfl) rfl
theorem q630 : (Jvm.Cond.classLink "FigureTill$Reader" (43 : Nat) "FigureTill$Fault") ∈ lw_all := lw_g (lw_at lw_m3 82 rfl) rfl
theorem q670 : (Jvm.Cond.methodLink "FigureTill$Reader" (45 : Nat) ({ cls := "FigureTill$Fault", name := "<init>", desc := "(I)V" } : Jvm.MethodName)) ∈ lw_all := lw_g (lw_at lw_m3 122 rfl) rfl
theorem q696 : (Jvm.Cond.methodLink "FigureTill$Reader" (62 : Nat) ({ cls := "FigureTill$Text", name := "add", desc := "(II)V" } : Jvm.MethodName)) ∈ lw_all := lw_g (lw_at lw_m3 148 rfl) rfl
theorem q700 : (Jvm.Cond.methodLink "FigureTill$Reader" (58 : Nat) ({ cls := "FigureTill$Reader", name := "takes", desc := "(I)Z" } : Jvm.MethodName)) ∈ lw_all := lw_g (lw_at lw_m3 152 rfl) rfl
theorem q701 : (Jvm.Cond.privateMethod ({ cls := "FigureTill$Reader", name := "takes", desc := "(I)Z" } : Jvm.MethodName)) ∈ lw_tbl := lw_at lw_m3 153 rfl
theorem q702 : (Jvm.Cond.instanceMethod ({ cls := "FigureTill$Reader", name := "takes", desc := "(I)Z" } : Jvm.MethodName)) ∈ lw_all := lw_g (lw_at lw_m3 154 rfl) rfl
theorem q703 : (Jvm.Cond.code ({ cls := "FigureTill$Reader", name := "takes", desc := "(I)Z" } : Jvm.MethodName) prog_11_method_3_code (3 : Nat) (Option.some Jvm.ClassFile.FieldType.boolean)) ∈ lw_all := lw_g (lw_at lw_m3 155 rfl) rfl
theorem q704 : (Jvm.Cond.methodLink "FigureTill$Reader" (74 : Nat) ({ cls := "FigureTill$Reader", name := "isOneOf", desc := "(Ljava/lang/String;)Z" } : Jvm.MethodName)) ∈ lw_all := lw_g (lw_at lw_m3 156 rfl) rfl
theorem q705 : (Jvm.Cond.privateMethod ({ cls := "FigureTill$Reader", name := "isOneOf", desc := "(Ljava/lang/String;)Z" } : Jvm.MethodName)) ∈ lw_tbl := lw_at lw_m3 157 rfl
theorem q706 : (Jvm.Cond.instanceMethod ({ cls := "FigureTill$Reader", name := "isOneOf", desc := "(Ljava/lang/String;)Z" } : Jvm.MethodName)) ∈ lw_all := lw_g (lw_at lw_m3 158 rfl) rfl
theorem q707 : (Jvm.Cond.code ({ cls := "FigureTill$Reader", name := "isOneOf", desc := "(Ljava/lang/String;)Z" } : Jvm.MethodName) prog_11_method_4_code (2 : Nat) (Option.some Jvm.ClassFile.FieldType.boolean)) ∈ lw_all := lw_g (lw_at lw_m3 159 rfl) rfl
theorem q708 : (Jvm.Cond.methodLink "FigureTill$Reader" (37 : Nat) ({ cls := "java/lang/String", name := "indexOf", desc := "(I)I" } : Jvm.MethodName)) ∈ lw_all := lw_g (lw_at lw_m3 160 rfl) rfl
theorem q790 : (Jvm.Cond.methodLink "FigureTill$Reader" (94 : Nat) ({ cls := "FigureTill$Reader", name := "number", desc := "()I" } : Jvm.MethodName)) ∈ lw_all := lw_g (lw_at lw_m4 2 rfl) rfl
theorem q791 : (Jvm.Cond.privateMethod ({ cls := "FigureTill$Reader", name := "number", desc := "()I" } : Jvm.MethodName)) ∈ lw_tbl := lw_at lw_m4 3 rfl
theorem q792 : (Jvm.Cond.instanceMethod ({ cls := "FigureTill$Reader", name := "number", desc := "()I" } : Jvm.MethodName)) ∈ lw_all := lw_g (lw_at lw_m4 4 rfl) rfl
theorem q793 : (Jvm.Cond.code ({ cls := "FigureTill$Reader", name := "number", desc := "()I" } : Jvm.MethodName) prog_11_method_14_code (3 : Nat) (Option.some Jvm.ClassFile.FieldType.int)) ∈ lw_all := lw_g (lw_at lw_m4 5 rfl) rfl
theorem q794 : (Jvm.Cond.methodLinkNest "FigureTill$Reader" (97 : Nat) ({ cls := "FigureTill", name := "isIn", desc := "(III)Z" } : Jvm.MethodName) "FigureTill") ∈ lw_tbl := lw_at lw_m4 6 rfl
theorem q795 : (Jvm.Cond.stringRef "FigureTill$Reader" (86 : Nat) "*/%") ∈ lw_tbl := lw_at lw_m4 7 rfl
theorem q796 : (Jvm.Cond.stringRef "FigureTill$Reader" (81 : Nat) "+-") ∈ lw_tbl := lw_at lw_m4 8 rfl
theorem q797 : (Jvm.Cond.stringRef "FigureTill$Reader" (72 : Nat) "<=>") ∈ lw_tbl := lw_at lw_m4 9 rfl
theorem in_X13 : ∀ w ∈ wsX130, w ∈ lw_all := lw_in wsX130 [577, 579, 581, 583, 585, 587] (by decide +kernel) (by decide +kernel)
/-! FigureTill$Text -/
def RX14 : String := "FigureTill$Text"
def TX14 : u_T := fun k => match k with
  | 0 => ("FigureTill$Text", "step", "[B", true)
  | 1 => ("FigureTill$Text", "value", "[S", true)
  | _ => ("FigureTill$Text", "many", "I", false)
def tyX14 : Nat → FieldType := fun k => match k with
  | 0 => .array .byte
  | 1 => .array .short
  | _ => .int
abbrev wsX140 : List Cond := u_ws RX14 TX14 3
theorem nmX14 : ∀ a, a < 3 → ∀ b, b < 3 → a ≠ b → (TX14 a).2.1 ≠ (TX14 b).2.1 := by decide +kernel
theorem tyX14_ok : ∀ k, k < 3 → parseFieldDescriptor (TX14 k).2.2.1 = some (tyX14 k) := by decide +kernel
abbrev cX14_init : ByteArray := prog_15_method_1_code
def yX14_init : MethodName := ⟨RX14, "<init>", "()V"⟩
def dkwX14_init_0 : List UInt8 := [42, 183, 0, 3, 42, 16, 60, 188, 8, 181, 0, 9, 42, 16, 60, 188, 9, 181, 0, 15, 177]
abbrev dktX14_init_0 : List UInt8 := dkwX14_init_0 ++ []
theorem dksX14_init_0 : cX14_init.data.toList.drop 0 = dktX14_init_0 := by decide +kernel
theorem dX14_init_0 : decode cX14_init 0 = .ok (.aload_n 0, 1) := dk_42 (dk_at dksX14_init_0 0 rfl rfl)
theorem dX14_init_1 : decode cX14_init 1 = .ok (.invokespecial 3, 3) := dk_183 0 3 (dk_at dksX14_init_0 1 rfl rfl)
theorem dX14_init_4 : decode cX14_init 4 = .ok (.aload_n 0, 1) := dk_42 (dk_at dksX14_init_0 4 rfl rfl)
theorem dX14_init_5 : decode cX14_init 5 = .ok (.bipush 60, 2) := dk_16 60 (dk_at dksX14_init_0 5 rfl rfl)
theorem dX14_init_7 : decode cX14_init 7 = .ok (.newarray .byte, 2) := dk_188_8 (dk_at dksX14_init_0 7 rfl rfl)
theorem dX14_init_9 : decode cX14_init 9 = .ok (.putfield 9, 3) := dk_181 0 9 (dk_at dksX14_init_0 9 rfl rfl)
theorem dX14_init_12 : decode cX14_init 12 = .ok (.aload_n 0, 1) := dk_42 (dk_at dksX14_init_0 12 rfl rfl)
theorem dX14_init_13 : decode cX14_init 13 = .ok (.bipush 60, 2) := dk_16 60 (dk_at dksX14_init_0 13 rfl rfl)
theorem dX14_init_15 : decode cX14_init 15 = .ok (.newarray .short, 2) := dk_188_9 (dk_at dksX14_init_0 15 rfl rfl)
theorem dX14_init_17 : decode cX14_init 17 = .ok (.putfield 15, 3) := dk_181 0 15 (dk_at dksX14_init_0 17 rfl rfl)
theorem dX14_init_20 : decode cX14_init 20 = .ok (.return_, 1) := dk_177 (dk_at dksX14_init_0 20 rfl rfl)
abbrev cX14_add : ByteArray := prog_15_method_2_code
def yX14_add : MethodName := ⟨RX14, "add", "(II)V"⟩
def dkwX14_add_1 : List UInt8 := [180, 0, 19, 4, 96, 181, 0, 19, 177]
abbrev dktX14_add_1 : List UInt8 := dkwX14_add_1 ++ []
def dkwX14_add_0 : List UInt8 := [42, 180, 0, 9, 42, 180, 0, 19, 27, 145, 84, 42, 180, 0, 15, 42, 180, 0, 19, 28, 147, 86, 42, 89]
abbrev dktX14_add_0 : List UInt8 := dkwX14_add_0 ++ dktX14_add_1
theorem dksX14_add_0 : cX14_add.data.toList.drop 0 = dktX14_add_0 := by decide +kernel
theorem dksX14_add_1 : cX14_add.data.toList.drop 24 = dktX14_add_1 := dk_seg dksX14_add_0 24 rfl rfl
theorem dX14_add_0 : decode cX14_add 0 = .ok (.aload_n 0, 1) := dk_42 (dk_at dksX14_add_0 0 rfl rfl)
theorem dX14_add_1 : decode cX14_add 1 = .ok (.getfield 9, 3) := dk_180 0 9 (dk_at dksX14_add_0 1 rfl rfl)
theorem dX14_add_4 : decode cX14_add 4 = .ok (.aload_n 0, 1) := dk_42 (dk_at dksX14_add_0 4 rfl rfl)
theorem dX14_add_5 : decode cX14_add 5 = .ok (.getfield 19, 3) := dk_180 0 19 (dk_at dksX14_add_0 5 rfl rfl)
theorem dX14_add_8 : decode cX14_add 8 = .ok (.iload_n 1, 1) := dk_27 (dk_at dksX14_add_0 8 rfl rfl)
theorem dX14_add_9 : decode cX14_add 9 = .ok (.i2b, 1) := dk_145 (dk_at dksX14_add_0 9 rfl rfl)
theorem dX14_add_10 : decode cX14_add 10 = .ok (.bastore, 1) := dk_84 (dk_at dksX14_add_0 10 rfl rfl)
theorem dX14_add_11 : decode cX14_add 11 = .ok (.aload_n 0, 1) := dk_42 (dk_at dksX14_add_0 11 rfl rfl)
theorem dX14_add_12 : decode cX14_add 12 = .ok (.getfield 15, 3) := dk_180 0 15 (dk_at dksX14_add_0 12 rfl rfl)
theorem dX14_add_15 : decode cX14_add 15 = .ok (.aload_n 0, 1) := dk_42 (dk_at dksX14_add_0 15 rfl rfl)
theorem dX14_add_16 : decode cX14_add 16 = .ok (.getfield 19, 3) := dk_180 0 19 (dk_at dksX14_add_0 16 rfl rfl)
theorem dX14_add_19 : decode cX14_add 19 = .ok (.iload_n 2, 1) := dk_28 (dk_at dksX14_add_0 19 rfl rfl)
theorem dX14_add_20 : decode cX14_add 20 = .ok (.i2s, 1) := dk_147 (dk_at dksX14_add_0 20 rfl rfl)
theorem dX14_add_21 : decode cX14_add 21 = .ok (.sastore, 1) := dk_86 (dk_at dksX14_add_0 21 rfl rfl)
theorem dX14_add_22 : decode cX14_add 22 = .ok (.aload_n 0, 1) := dk_42 (dk_at dksX14_add_0 22 rfl rfl)
theorem dX14_add_23 : decode cX14_add 23 = .ok (.dup, 1) := dk_89 (dk_at dksX14_add_0 23 rfl rfl)
theorem dX14_add_24 : decode cX14_add 24 = .ok (.getfield 19, 3) := dk_180 0 19 (dk_at dksX14_add_1 0 rfl rfl)
theorem dX14_add_27 : decode cX14_add 27 = .ok (.iconst 1, 1) := dk_4 (dk_at dksX14_add_1 3 rfl rfl)
theorem dX14_add_28 : decode cX14_add 28 = .ok (.iadd, 1) := dk_96 (dk_at dksX14_add_1 4 rfl rfl)
theorem dX14_add_29 : decode cX14_add 29 = .ok (.putfield 19, 3) := dk_181 0 19 (dk_at dksX14_add_1 5 rfl rfl)
theorem dX14_add_32 : decode cX14_add 32 = .ok (.return_, 1) := dk_177 (dk_at dksX14_add_1 8 rfl rfl)
theorem q84 : (Jvm.Cond.initialized "FigureTill$Text") ∈ lw_all := lw_g (lw_at lw_m1 16 rfl) rfl
theorem q552 : (Jvm.Cond.instantiable "FigureTill$Text" (3 : Nat)) ∈ lw_all := lw_g (lw_at lw_m3 4 rfl) rfl
theorem q554 : (Jvm.Cond.instanceMethod ({ cls := "FigureTill$Text", name := "<init>", desc := "()V" } : Jvm.MethodName)) ∈ lw_all := lw_g (lw_at lw_m3 6 rfl) rfl
theorem q555 : (Jvm.Cond.code ({ cls := "FigureTill$Text", name := "<init>", desc := "()V" } : Jvm.MethodName) prog_15_method_1_code (1 : Nat) (Option.none : Option Jvm.ClassFile.FieldType)) ∈ lw_all := lw_g (lw_at lw_m3 7 rfl) rfl
theorem q556 : (Jvm.Cond.methodLink "FigureTill$Text" (3 : Nat) ({ cls := "java/lang/Object", name := "<init>", desc := "()V" } : Jvm.MethodName)) ∈ lw_all := lw_g (lw_at lw_m3 8 rfl) rfl
theorem q557 : (Jvm.Cond.fieldLink "FigureTill$Text" (9 : Nat) "FigureTill$Text" "step" "[B") ∈ lw_all := lw_g (lw_at lw_m3 9 rfl) rfl
theorem q559 : (Jvm.Cond.fieldLink "FigureTill$Text" (15 : Nat) "FigureTill$Text" "value" "[S") ∈ lw_all := lw_g (lw_at lw_m3 11 rfl) rfl
theorem q561 : (Jvm.Cond.fieldLink "FigureTill$Text" (19 : Nat) "FigureTill$Text" "many" "I") ∈ lw_all := lw_g (lw_at lw_m3 13 rfl) rfl
theorem q563 : (Jvm.Cond.laysFinal "FigureTill$Text" "FigureTill$Text" "step" "[B") ∈ lw_all := lw_g (lw_at lw_m3 15 rfl) rfl
theorem q564 : (Jvm.Cond.soleField "FigureTill$Text" "step") ∈ lw_all := lw_g (lw_at lw_m3 16 rfl) rfl
theorem q565 : (Jvm.Cond.laysFinal "FigureTill$Text" "FigureTill$Text" "value" "[S") ∈ lw_all := lw_g (lw_at lw_m3 17 rfl) rfl
theorem q566 : (Jvm.Cond.soleField "FigureTill$Text" "value") ∈ lw_all := lw_g (lw_at lw_m3 18 rfl) rfl
theorem q567 : (Jvm.Cond.lays "FigureTill$Text" "FigureTill$Text" "many" "I") ∈ lw_all := lw_g (lw_at lw_m3 19 rfl) rfl
theorem q568 : (Jvm.Cond.soleField "FigureTill$Text" "many") ∈ lw_all := lw_g (lw_at lw_m3 20 rfl) rfl
theorem q569 : (Jvm.Cond.superclass "FigureTill$Text" "java/lang/Object") ∈ lw_all := lw_g (lw_at lw_m3 21 rfl) rfl
theorem q697 : (Jvm.Cond.instanceMethod ({ cls := "FigureTill$Text", name := "add", desc := "(II)V" } : Jvm.MethodName)) ∈ lw_all := lw_g (lw_at lw_m3 149 rfl) rfl
theorem q698 : (Jvm.Cond.selects "FigureTill$Text" ({ cls := "FigureTill$Text", name := "add", desc := "(II)V" } : Jvm.MethodName) ({ cls := "FigureTill$Text", name := "add", desc := "(II)V" } : Jvm.MethodName)) ∈ lw_all := lw_g (lw_at lw_m3 150 rfl) rfl
theorem q699 : (Jvm.Cond.code ({ cls := "FigureTill$Text", name := "add", desc := "(II)V" } : Jvm.MethodName) prog_15_method_2_code (3 : Nat) (Option.none : Option Jvm.ClassFile.FieldType)) ∈ lw_all := lw_g (lw_at lw_m3 151 rfl) rfl
theorem in_X14 : ∀ w ∈ wsX140, w ∈ lw_all := lw_in wsX140 [563, 565, 567] (by decide +kernel) (by decide +kernel)
/-! FigureTill$Fault -/
def RX15 : String := "FigureTill$Fault"
def TX15 : u_T := fun k => match k with
  | 0 => ("java/lang/Throwable", "cause", "Ljava/lang/Throwable;", false)
  | 1 => ("java/lang/Throwable", "stackTrace", "[Ljava/lang/StackTraceElement;", false)
  | 2 => ("java/lang/Throwable", "suppressedExceptions", "Ljava/util/List;", false)
  | 3 => ("java/lang/Throwable", "detailMessage", "Ljava/lang/String;", false)
  | 4 => ("java/lang/Throwable", "backtrace", "Ljava/lang/Object;", false)
  | 5 => ("java/lang/Throwable", "depth", "I", false)
  | _ => ("FigureTill$Fault", "place", "I", true)
def tyX15 : Nat → FieldType := fun k => match k with
  | 0 => .object "java/lang/Throwable"
  | 1 => .array (.object "java/lang/StackTraceElement")
  | 2 => .object "java/util/List"
  | 3 => .object "java/lang/String"
  | 4 => .object "java/lang/Object"
  | 5 => .int
  | _ => .int
abbrev wsX150 : List Cond := u_ws RX15 TX15 7
theorem nmX15 : ∀ a, a < 7 → ∀ b, b < 7 → a ≠ b → (TX15 a).2.1 ≠ (TX15 b).2.1 := by decide +kernel
theorem tyX15_ok : ∀ k, k < 7 → parseFieldDescriptor (TX15 k).2.2.1 = some (tyX15 k) := by decide +kernel
abbrev cX15_init : ByteArray := prog_5_method_1_code
def yX15_init : MethodName := ⟨RX15, "<init>", "(I)V"⟩
def dkwX15_init_0 : List UInt8 := [42, 1, 1, 3, 3, 183, 0, 1, 42, 27, 181, 0, 7, 177]
abbrev dktX15_init_0 : List UInt8 := dkwX15_init_0 ++ []
theorem dksX15_init_0 : cX15_init.data.toList.drop 0 = dktX15_init_0 := by decide +kernel
theorem dX15_init_0 : decode cX15_init 0 = .ok (.aload_n 0, 1) := dk_42 (dk_at dksX15_init_0 0 rfl rfl)
theorem dX15_init_1 : decode cX15_init 1 = .ok (.aconst_null, 1) := dk_1 (dk_at dksX15_init_0 1 rfl rfl)
theorem dX15_init_2 : decode cX15_init 2 = .ok (.aconst_null, 1) := dk_1 (dk_at dksX15_init_0 2 rfl rfl)
theorem dX15_init_3 : decode cX15_init 3 = .ok (.iconst 0, 1) := dk_3 (dk_at dksX15_init_0 3 rfl rfl)
theorem dX15_init_4 : decode cX15_init 4 = .ok (.iconst 0, 1) := dk_3 (dk_at dksX15_init_0 4 rfl rfl)
theorem dX15_init_5 : decode cX15_init 5 = .ok (.invokespecial 1, 3) := dk_183 0 1 (dk_at dksX15_init_0 5 rfl rfl)
theorem dX15_init_8 : decode cX15_init 8 = .ok (.aload_n 0, 1) := dk_42 (dk_at dksX15_init_0 8 rfl rfl)
theorem dX15_init_9 : decode cX15_init 9 = .ok (.iload_n 1, 1) := dk_27 (dk_at dksX15_init_0 9 rfl rfl)
theorem dX15_init_10 : decode cX15_init 10 = .ok (.putfield 7, 3) := dk_181 0 7 (dk_at dksX15_init_0 10 rfl rfl)
theorem dX15_init_13 : decode cX15_init 13 = .ok (.return_, 1) := dk_177 (dk_at dksX15_init_0 13 rfl rfl)
theorem q87 : (Jvm.Cond.initialized "FigureTill$Fault") ∈ lw_all := lw_g (lw_at lw_m1 19 rfl) rfl
theorem q631 : (Jvm.Cond.instantiable "FigureTill$Fault" (7 : Nat)) ∈ lw_all := lw_g (lw_at lw_m3 83 rfl) rfl
theorem q632 : (Jvm.Cond.castable "FigureTill$Fault" "FigureTill$Fault") ∈ lw_tbl := lw_at lw_m3 84 rfl
theorem q637 : (Jvm.Cond.selects "FigureTill$Fault" ({ cls := "java/lang/Throwable", name := "fillInStackTrace", desc := "(I)Ljava/lang/Throwable;" } : Jvm.MethodName) ({ cls := "java/lang/Throwable", name := "fillInStackTrace", desc := "(I)Ljava/lang/Throwable;" } : Jvm.MethodName)) ∈ lw_all := lw_g (lw_at lw_m3 89 rfl) rfl
theorem q638 : (Jvm.Cond.selects "FigureTill$Fault" ({ cls := "java/lang/Throwable", name := "fillInStackTrace", desc := "()Ljava/lang/Throwable;" } : Jvm.MethodName) ({ cls := "java/lang/Throwable", name := "fillInStackTrace", desc := "()Ljava/lang/Throwable;" } : Jvm.MethodName)) ∈ lw_all := lw_g (lw_at lw_m3 90 rfl) rfl
theorem q639 : (Jvm.Cond.lays "FigureTill$Fault" "java/lang/Throwable" "cause" "Ljava/lang/Throwable;") ∈ lw_all := lw_g (lw_at lw_m3 91 rfl) rfl
theorem q641 : (Jvm.Cond.lays "FigureTill$Fault" "java/lang/Throwable" "stackTrace" "[Ljava/lang/StackTraceElement;") ∈ lw_all := lw_g (lw_at lw_m3 93 rfl) rfl
theorem q643 : (Jvm.Cond.lays "FigureTill$Fault" "java/lang/Throwable" "suppressedExceptions" "Ljava/util/List;") ∈ lw_all := lw_g (lw_at lw_m3 95 rfl) rfl
theorem q645 : (Jvm.Cond.lays "FigureTill$Fault" "java/lang/Throwable" "detailMessage" "Ljava/lang/String;") ∈ lw_all := lw_g (lw_at lw_m3 97 rfl) rfl
theorem q647 : (Jvm.Cond.lays "FigureTill$Fault" "java/lang/Throwable" "backtrace" "Ljava/lang/Object;") ∈ lw_all := lw_g (lw_at lw_m3 99 rfl) rfl
theorem q671 : (Jvm.Cond.instanceMethod ({ cls := "FigureTill$Fault", name := "<init>", desc := "(I)V" } : Jvm.MethodName)) ∈ lw_all := lw_g (lw_at lw_m3 123 rfl) rfl
theorem q672 : (Jvm.Cond.code ({ cls := "FigureTill$Fault", name := "<init>", desc := "(I)V" } : Jvm.MethodName) prog_5_method_1_code (2 : Nat) (Option.none : Option Jvm.ClassFile.FieldType)) ∈ lw_all := lw_g (lw_at lw_m3 124 rfl) rfl
theorem q673 : (Jvm.Cond.methodLink "FigureTill$Fault" (1 : Nat) ({ cls := "java/lang/Exception", name := "<init>", desc := "(Ljava/lang/String;Ljava/lang/Throwable;ZZ)V" } : Jvm.MethodName)) ∈ lw_all := lw_g (lw_at lw_m3 125 rfl) rfl
theorem q679 : (Jvm.Cond.fieldLink "FigureTill$Fault" (7 : Nat) "FigureTill$Fault" "place" "I") ∈ lw_all := lw_g (lw_at lw_m3 131 rfl) rfl
theorem q686 : (Jvm.Cond.laysFinal "FigureTill$Fault" "FigureTill$Fault" "place" "I") ∈ lw_all := lw_g (lw_at lw_m3 138 rfl) rfl
theorem q687 : (Jvm.Cond.soleField "FigureTill$Fault" "place") ∈ lw_all := lw_g (lw_at lw_m3 139 rfl) rfl
theorem q692 : (Jvm.Cond.lays "FigureTill$Fault" "java/lang/Throwable" "depth" "I") ∈ lw_all := lw_g (lw_at lw_m3 144 rfl) rfl
theorem q695 : (Jvm.Cond.superclass "FigureTill$Fault" "java/lang/Exception") ∈ lw_all := lw_g (lw_at lw_m3 147 rfl) rfl
theorem in_X15 : ∀ w ∈ wsX150, w ∈ lw_all := lw_in wsX150 [639, 641, 643, 645, 647, 692, 686] (by decide +kernel) (by decide +kernel)
/-! FigureTill$Comes -/
def RX16 : String := "FigureTill$Comes"
abbrev cX16_comes : ByteArray := prog_2_method_2_code
def yX16_comes : MethodName := ⟨RX16, "comes", "(ILFigureTill$Trace;)I"⟩
def dkwX16_comes_0 : List UInt8 := [44, 16, 11, 182, 0, 1, 42, 27, 44, 185, 0, 7, 3, 0, 5, 104, 172]
abbrev dktX16_comes_0 : List UInt8 := dkwX16_comes_0 ++ []
theorem dksX16_comes_0 : cX16_comes.data.toList.drop 0 = dktX16_comes_0 := by decide +kernel
theorem dX16_comes_0 : decode cX16_comes 0 = .ok (.aload_n 2, 1) := dk_44 (dk_at dksX16_comes_0 0 rfl rfl)
theorem dX16_comes_1 : decode cX16_comes 1 = .ok (.bipush 11, 2) := dk_16 11 (dk_at dksX16_comes_0 1 rfl rfl)
theorem dX16_comes_3 : decode cX16_comes 3 = .ok (.invokevirtual 1, 3) := dk_182 0 1 (dk_at dksX16_comes_0 3 rfl rfl)
theorem dX16_comes_6 : decode cX16_comes 6 = .ok (.aload_n 0, 1) := dk_42 (dk_at dksX16_comes_0 6 rfl rfl)
theorem dX16_comes_7 : decode cX16_comes 7 = .ok (.iload_n 1, 1) := dk_27 (dk_at dksX16_comes_0 7 rfl rfl)
theorem dX16_comes_8 : decode cX16_comes 8 = .ok (.aload_n 2, 1) := dk_44 (dk_at dksX16_comes_0 8 rfl rfl)
theorem dX16_comes_9 : decode cX16_comes 9 = .ok (.invokeinterface 7 3, 5) := by decide +kernel
theorem dX16_comes_14 : decode cX16_comes 14 = .ok (.iconst 2, 1) := dk_5 (dk_at dksX16_comes_0 14 rfl rfl)
theorem dX16_comes_15 : decode cX16_comes 15 = .ok (.imul, 1) := dk_104 (dk_at dksX16_comes_0 15 rfl rfl)
theorem dX16_comes_16 : decode cX16_comes 16 = .ok (.ireturn, 1) := dk_172 (dk_at dksX16_comes_0 16 rfl rfl)
theorem q997 : (Jvm.Cond.declares ({ cls := "FigureTill$Comes", name := "comes", desc := "(ILFigureTill$Trace;)I" } : Jvm.MethodName)) ∈ lw_tbl := lw_at lw_m4 209 rfl
theorem q1009 : (Jvm.Cond.instanceMethod ({ cls := "FigureTill$Comes", name := "comes", desc := "(ILFigureTill$Trace;)I" } : Jvm.MethodName)) ∈ lw_all := lw_g (lw_at lw_m4 221 rfl) rfl
theorem q1010 : (Jvm.Cond.code ({ cls := "FigureTill$Comes", name := "comes", desc := "(ILFigureTill$Trace;)I" } : Jvm.MethodName) prog_2_method_2_code (3 : Nat) (Option.some Jvm.ClassFile.FieldType.int)) ∈ lw_all := lw_g (lw_at lw_m4 222 rfl) rfl
theorem q1011 : (Jvm.Cond.methodLink "FigureTill$Comes" (1 : Nat) ({ cls := "FigureTill$Trace", name := "ran", desc := "(I)V" } : Jvm.MethodName)) ∈ lw_all := lw_g (lw_at lw_m4 223 rfl) rfl
theorem q1012 : (Jvm.Cond.interfaceEntry "FigureTill$Comes" (7 : Nat)) ∈ lw_tbl := lw_at lw_m4 224 rfl
theorem q1013 : (Jvm.Cond.methodLink "FigureTill$Comes" (7 : Nat) ({ cls := "FigureTill$Comes", name := "adds", desc := "(ILFigureTill$Trace;)I" } : Jvm.MethodName)) ∈ lw_all := lw_g (lw_at lw_m4 225 rfl) rfl
theorem q1014 : (Jvm.Cond.interfaceMethod "FigureTill$Comes" "FigureTill$Comes" "adds" "(ILFigureTill$Trace;)I") ∈ lw_tbl := lw_at lw_m4 226 rfl
theorem q1015 : (Jvm.Cond.declares ({ cls := "FigureTill$Comes", name := "adds", desc := "(ILFigureTill$Trace;)I" } : Jvm.MethodName)) ∈ lw_tbl := lw_at lw_m4 227 rfl
theorem q1046 : (Jvm.Cond.publicMethod ({ cls := "FigureTill$Comes", name := "comes", desc := "(ILFigureTill$Trace;)I" } : Jvm.MethodName)) ∈ lw_tbl := lw_at lw_m5 18 rfl
theorem q1595 : (Jvm.Cond.initialized "FigureTill$Comes") ∈ lw_all := lw_g (lw_at lw_m7 87 rfl) rfl
