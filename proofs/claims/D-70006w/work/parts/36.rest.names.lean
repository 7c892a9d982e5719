theorem q144 : (Jvm.Cond.arrayOver (Jvm.ClassFile.FieldType.array Jvm.ClassFile.FieldType.byte)) ∈ lw_tbl := lw_at lw_m1 60 rfl
set_option maxRecDepth 100000
theorem q198 : (Jvm.Cond.arrayClass Jvm.ClassFile.FieldType.byte) ∈ lw_all := lw_g (lw_at lw_m1 114 rfl) rfl
theorem q199 : (Jvm.Cond.arrayClass Jvm.ClassFile.FieldType.int) ∈ lw_all := lw_g (lw_at lw_m1 115 rfl) rfl
theorem q201 : (Jvm.Cond.arrayOver (Jvm.ClassFile.FieldType.object "EchoPens$Order")) ∈ lw_tbl := lw_at lw_m1 117 rfl
theorem q885 : (Jvm.Cond.arrayOver (Jvm.ClassFile.FieldType.array Jvm.ClassFile.FieldType.int)) ∈ lw_tbl := lw_at lw_m4 81 rfl
theorem q887 : (Jvm.Cond.arrayOver (Jvm.ClassFile.FieldType.object "EchoPens$Image")) ∈ lw_tbl := lw_at lw_m4 83 rfl
theorem q913 : (Jvm.Cond.arrayOver (Jvm.ClassFile.FieldType.object "EchoPens$Sheet")) ∈ lw_tbl := lw_at lw_m4 109 rfl
theorem q1039 : (Jvm.Cond.arrayClass Jvm.ClassFile.FieldType.short) ∈ lw_all := lw_g (lw_at lw_m4 235 rfl) rfl
theorem q1236 : (Jvm.Cond.arrayClass Jvm.ClassFile.FieldType.boolean) ∈ lw_all := lw_g (lw_at lw_m5 192 rfl) rfl
theorem q1646 : (Jvm.Cond.arrayOver (Jvm.ClassFile.FieldType.object "java/lang/String")) ∈ lw_tbl := lw_at lw_m7 122 rfl
theorem q90 : (Jvm.Cond.initialized "java/lang/System") ∈ lw_all := lw_g (lw_at lw_m1 6 rfl) rfl
set_option maxRecDepth 100000
theorem q127 : (Jvm.Cond.static ({ cls := "java/lang/System", name := "arraycopy", desc := "(Ljava/lang/Object;ILjava/lang/Object;II)V" } : Jvm.MethodName)) ∈ lw_all := lw_g (lw_at lw_m1 43 rfl) rfl
theorem q128 : (Jvm.Cond.native ({ cls := "java/lang/System", name := "arraycopy", desc := "(Ljava/lang/Object;ILjava/lang/Object;II)V" } : Jvm.MethodName)) ∈ lw_all := lw_g (lw_at lw_m1 44 rfl) rfl
theorem q84 : (Jvm.Cond.initialized "EchoPensLaw") ∈ lw_all := lw_g (lw_at lw_m1 0 rfl) rfl
set_option maxRecDepth 100000
theorem q109 : (Jvm.Cond.methodLink "EchoPensLaw" (13 : Nat) ({ cls := "EchoPens", name := "feed", desc := "(I)I" } : Jvm.MethodName)) ∈ lw_all := lw_g (lw_at lw_m1 25 rfl) rfl
theorem q117 : (Jvm.Cond.methodLink "EchoPensLaw" (18 : Nat) ({ cls := "EchoPens", name := "end", desc := "(I)I" } : Jvm.MethodName)) ∈ lw_all := lw_g (lw_at lw_m1 33 rfl) rfl
theorem q121 : (Jvm.Cond.methodLink "EchoPensLaw" (22 : Nat) ({ cls := "EchoPens", name := "text", desc := "()I" } : Jvm.MethodName)) ∈ lw_all := lw_g (lw_at lw_m1 37 rfl) rfl
theorem q540 : (Jvm.Cond.methodLink "EchoPensLaw" (27 : Nat) ({ cls := "EchoPens", name := "fault", desc := "()I" } : Jvm.MethodName)) ∈ lw_all := lw_g (lw_at lw_m2 216 rfl) rfl
theorem q544 : (Jvm.Cond.methodLink "EchoPensLaw" (31 : Nat) ({ cls := "EchoPens", name := "rule", desc := "(I)I" } : Jvm.MethodName)) ∈ lw_all := lw_g (lw_at lw_m2 220 rfl) rfl
theorem q561 : (Jvm.Cond.methodLink "EchoPensLaw" (35 : Nat) ({ cls := "EchoPens", name := "pen", desc := "(II)I" } : Jvm.MethodName)) ∈ lw_all := lw_g (lw_at lw_m2 237 rfl) rfl
theorem q571 : (Jvm.Cond.methodLink "EchoPensLaw" (40 : Nat) ({ cls := "EchoPens", name := "echo", desc := "(II)I" } : Jvm.MethodName)) ∈ lw_all := lw_g (lw_at lw_m3 7 rfl) rfl
theorem q609 : (Jvm.Cond.methodLink "EchoPensLaw" (44 : Nat) ({ cls := "EchoPens", name := "letter", desc := "(II)I" } : Jvm.MethodName)) ∈ lw_all := lw_g (lw_at lw_m3 45 rfl) rfl
theorem q613 : (Jvm.Cond.methodLink "EchoPensLaw" (48 : Nat) ({ cls := "EchoPens", name := "order", desc := "(II)I" } : Jvm.MethodName)) ∈ lw_all := lw_g (lw_at lw_m3 49 rfl) rfl
theorem q622 : (Jvm.Cond.methodLink "EchoPensLaw" (52 : Nat) ({ cls := "EchoPens", name := "drive", desc := "(II)I" } : Jvm.MethodName)) ∈ lw_all := lw_g (lw_at lw_m3 58 rfl) rfl
theorem q635 : (Jvm.Cond.methodLink "EchoPensLaw" (56 : Nat) ({ cls := "EchoPens", name := "fence", desc := "(III)I" } : Jvm.MethodName)) ∈ lw_all := lw_g (lw_at lw_m3 71 rfl) rfl
theorem q645 : (Jvm.Cond.methodLink "EchoPensLaw" (61 : Nat) ({ cls := "EchoPens", name := "raise", desc := "(III)I" } : Jvm.MethodName)) ∈ lw_all := lw_g (lw_at lw_m3 81 rfl) rfl
theorem q651 : (Jvm.Cond.methodLink "EchoPensLaw" (65 : Nat) ({ cls := "EchoPens", name := "clip", desc := "(I)I" } : Jvm.MethodName)) ∈ lw_all := lw_g (lw_at lw_m3 87 rfl) rfl
theorem q656 : (Jvm.Cond.methodLink "EchoPensLaw" (69 : Nat) ({ cls := "EchoPens", name := "teach", desc := "(II)I" } : Jvm.MethodName)) ∈ lw_all := lw_g (lw_at lw_m3 92 rfl) rfl
theorem q662 : (Jvm.Cond.methodLink "EchoPensLaw" (73 : Nat) ({ cls := "EchoPens", name := "cross", desc := "(II)I" } : Jvm.MethodName)) ∈ lw_all := lw_g (lw_at lw_m3 98 rfl) rfl
theorem q666 : (Jvm.Cond.methodLink "EchoPensLaw" (77 : Nat) ({ cls := "EchoPens", name := "go", desc := "(I)I" } : Jvm.MethodName)) ∈ lw_all := lw_g (lw_at lw_m3 102 rfl) rfl
theorem q719 : (Jvm.Cond.methodLink "EchoPensLaw" (81 : Nat) ({ cls := "EchoPens", name := "ahead", desc := "(III)I" } : Jvm.MethodName)) ∈ lw_all := lw_g (lw_at lw_m3 155 rfl) rfl
theorem q723 : (Jvm.Cond.methodLink "EchoPensLaw" (85 : Nat) ({ cls := "EchoPens", name := "when", desc := "(II)I" } : Jvm.MethodName)) ∈ lw_all := lw_g (lw_at lw_m3 159 rfl) rfl
theorem q736 : (Jvm.Cond.methodLink "EchoPensLaw" (89 : Nat) ({ cls := "EchoPens", name := "heard", desc := "(II)I" } : Jvm.MethodName)) ∈ lw_all := lw_g (lw_at lw_m3 172 rfl) rfl
theorem q751 : (Jvm.Cond.methodLink "EchoPensLaw" (93 : Nat) ({ cls := "EchoPens", name := "together", desc := "(I)I" } : Jvm.MethodName)) ∈ lw_all := lw_g (lw_at lw_m3 187 rfl) rfl
theorem q755 : (Jvm.Cond.methodLink "EchoPensLaw" (97 : Nat) ({ cls := "EchoPens", name := "still", desc := "(I)I" } : Jvm.MethodName)) ∈ lw_all := lw_g (lw_at lw_m3 191 rfl) rfl
theorem q760 : (Jvm.Cond.methodLink "EchoPensLaw" (101 : Nat) ({ cls := "EchoPens", name := "meets", desc := "(I)I" } : Jvm.MethodName)) ∈ lw_all := lw_g (lw_at lw_m3 196 rfl) rfl
theorem q764 : (Jvm.Cond.methodLink "EchoPensLaw" (105 : Nat) ({ cls := "EchoPens", name := "sell", desc := "(II)I" } : Jvm.MethodName)) ∈ lw_all := lw_g (lw_at lw_m3 200 rfl) rfl
theorem q768 : (Jvm.Cond.methodLink "EchoPensLaw" (109 : Nat) ({ cls := "EchoPens", name := "sale", desc := "(I)I" } : Jvm.MethodName)) ∈ lw_all := lw_g (lw_at lw_m3 204 rfl) rfl
theorem q780 : (Jvm.Cond.methodLink "EchoPensLaw" (113 : Nat) ({ cls := "EchoPens", name := "best", desc := "(II)I" } : Jvm.MethodName)) ∈ lw_all := lw_g (lw_at lw_m3 216 rfl) rfl
theorem q801 : (Jvm.Cond.methodLink "EchoPensLaw" (117 : Nat) ({ cls := "EchoPens", name := "near", desc := "(I)I" } : Jvm.MethodName)) ∈ lw_all := lw_g (lw_at lw_m3 237 rfl) rfl
theorem q807 : (Jvm.Cond.methodLink "EchoPensLaw" (121 : Nat) ({ cls := "EchoPens", name := "keeps", desc := "(IIII)J" } : Jvm.MethodName)) ∈ lw_all := lw_g (lw_at lw_m4 3 rfl) rfl
theorem q827 : (Jvm.Cond.methodLink "EchoPensLaw" (126 : Nat) ({ cls := "EchoPens", name := "mean", desc := "(IIII)J" } : Jvm.MethodName)) ∈ lw_all := lw_g (lw_at lw_m4 23 rfl) rfl
theorem q831 : (Jvm.Cond.methodLink "EchoPensLaw" (130 : Nat) ({ cls := "EchoPens", name := "see", desc := "(III)I" } : Jvm.MethodName)) ∈ lw_all := lw_g (lw_at lw_m4 27 rfl) rfl
theorem q836 : (Jvm.Cond.methodLink "EchoPensLaw" (134 : Nat) ({ cls := "EchoPens", name := "forget", desc := "(I)I" } : Jvm.MethodName)) ∈ lw_all := lw_g (lw_at lw_m4 32 rfl) rfl
theorem q840 : (Jvm.Cond.methodLink "EchoPensLaw" (138 : Nat) ({ cls := "EchoPens", name := "fits", desc := "(I)I" } : Jvm.MethodName)) ∈ lw_all := lw_g (lw_at lw_m4 36 rfl) rfl
theorem q844 : (Jvm.Cond.methodLink "EchoPensLaw" (142 : Nat) ({ cls := "EchoPens", name := "listen", desc := "(II)I" } : Jvm.MethodName)) ∈ lw_all := lw_g (lw_at lw_m4 40 rfl) rfl
theorem q848 : (Jvm.Cond.methodLink "EchoPensLaw" (146 : Nat) ({ cls := "EchoPens", name := "drift", desc := "(III)I" } : Jvm.MethodName)) ∈ lw_all := lw_g (lw_at lw_m4 44 rfl) rfl
theorem q856 : (Jvm.Cond.methodLink "EchoPensLaw" (150 : Nat) ({ cls := "EchoPens", name := "keep", desc := "(I)I" } : Jvm.MethodName)) ∈ lw_all := lw_g (lw_at lw_m4 52 rfl) rfl
theorem q868 : (Jvm.Cond.methodLink "EchoPensLaw" (154 : Nat) ({ cls := "EchoPens", name := "back", desc := "(I)I" } : Jvm.MethodName)) ∈ lw_all := lw_g (lw_at lw_m4 64 rfl) rfl
theorem q876 : (Jvm.Cond.classLink "EchoPensLaw" (7 : Nat) "EchoPens") ∈ lw_all := lw_g (lw_at lw_m4 72 rfl) rfl
theorem q877 : (Jvm.Cond.methodLink "EchoPensLaw" (9 : Nat) ({ cls := "EchoPens", name := "<init>", desc := "()V" } : Jvm.MethodName)) ∈ lw_all := lw_g (lw_at lw_m4 73 rfl) rfl
theorem q1005 : (Jvm.Cond.methodLink "EchoPensLaw" (158 : Nat) ({ cls := "EchoPens", name := "sheet", desc := "(III)I" } : Jvm.MethodName)) ∈ lw_all := lw_g (lw_at lw_m4 201 rfl) rfl
theorem q1040 : (Jvm.Cond.methodLink "EchoPensLaw" (162 : Nat) ({ cls := "EchoPens", name := "lay", desc := "(III)I" } : Jvm.MethodName)) ∈ lw_all := lw_g (lw_at lw_m4 236 rfl) rfl
theorem q1091 : (Jvm.Cond.methodLink "EchoPensLaw" (166 : Nat) ({ cls := "EchoPens", name := "read", desc := "(IIII)I" } : Jvm.MethodName)) ∈ lw_all := lw_g (lw_at lw_m5 47 rfl) rfl
theorem q1117 : (Jvm.Cond.methodLink "EchoPensLaw" (171 : Nat) ({ cls := "EchoPens", name := "torn", desc := "()I" } : Jvm.MethodName)) ∈ lw_all := lw_g (lw_at lw_m5 73 rfl) rfl
theorem q1121 : (Jvm.Cond.methodLink "EchoPensLaw" (175 : Nat) ({ cls := "EchoPens", name := "count", desc := "(I)I" } : Jvm.MethodName)) ∈ lw_all := lw_g (lw_at lw_m5 77 rfl) rfl
theorem q1125 : (Jvm.Cond.classLink "EchoPensLaw" (10 : Nat) "EchoPensModel") ∈ lw_all := lw_g (lw_at lw_m5 81 rfl) rfl
theorem q1127 : (Jvm.Cond.methodLink "EchoPensLaw" (12 : Nat) ({ cls := "EchoPensModel", name := "<init>", desc := "()V" } : Jvm.MethodName)) ∈ lw_all := lw_g (lw_at lw_m5 83 rfl) rfl
theorem q1237 : (Jvm.Cond.methodLink "EchoPensLaw" (17 : Nat) ({ cls := "EchoPensModel", name := "feed", desc := "(I)I" } : Jvm.MethodName)) ∈ lw_all := lw_g (lw_at lw_m5 193 rfl) rfl
theorem q1245 : (Jvm.Cond.methodLink "EchoPensLaw" (21 : Nat) ({ cls := "EchoPensModel", name := "end", desc := "(I)I" } : Jvm.MethodName)) ∈ lw_all := lw_g (lw_at lw_m5 201 rfl) rfl
theorem q1249 : (Jvm.Cond.methodLink "EchoPensLaw" (26 : Nat) ({ cls := "EchoPensModel", name := "text", desc := "()I" } : Jvm.MethodName)) ∈ lw_all := lw_g (lw_at lw_m5 205 rfl) rfl
theorem q1311 : (Jvm.Cond.methodLink "EchoPensLaw" (30 : Nat) ({ cls := "EchoPensModel", name := "fault", desc := "()I" } : Jvm.MethodName)) ∈ lw_all := lw_g (lw_at lw_m6 27 rfl) rfl
theorem q1315 : (Jvm.Cond.methodLink "EchoPensLaw" (34 : Nat) ({ cls := "EchoPensModel", name := "rule", desc := "(I)I" } : Jvm.MethodName)) ∈ lw_all := lw_g (lw_at lw_m6 31 rfl) rfl
theorem q1339 : (Jvm.Cond.methodLink "EchoPensLaw" (39 : Nat) ({ cls := "EchoPensModel", name := "pen", desc := "(II)I" } : Jvm.MethodName)) ∈ lw_all := lw_g (lw_at lw_m6 55 rfl) rfl
theorem q1348 : (Jvm.Cond.methodLink "EchoPensLaw" (43 : Nat) ({ cls := "EchoPensModel", name := "echo", desc := "(II)I" } : Jvm.MethodName)) ∈ lw_all := lw_g (lw_at lw_m6 64 rfl) rfl
theorem q1372 : (Jvm.Cond.methodLink "EchoPensLaw" (47 : Nat) ({ cls := "EchoPensModel", name := "letter", desc := "(II)I" } : Jvm.MethodName)) ∈ lw_all := lw_g (lw_at lw_m6 88 rfl) rfl
theorem q1376 : (Jvm.Cond.methodLink "EchoPensLaw" (51 : Nat) ({ cls := "EchoPensModel", name := "order", desc := "(II)I" } : Jvm.MethodName)) ∈ lw_all := lw_g (lw_at lw_m6 92 rfl) rfl
theorem q1384 : (Jvm.Cond.methodLink "EchoPensLaw" (55 : Nat) ({ cls := "EchoPensModel", name := "drive", desc := "(II)I" } : Jvm.MethodName)) ∈ lw_all := lw_g (lw_at lw_m6 100 rfl) rfl
theorem q1395 : (Jvm.Cond.methodLink "EchoPensLaw" (60 : Nat) ({ cls := "EchoPensModel", name := "fence", desc := "(III)I" } : Jvm.MethodName)) ∈ lw_all := lw_g (lw_at lw_m6 111 rfl) rfl
theorem q1404 : (Jvm.Cond.methodLink "EchoPensLaw" (64 : Nat) ({ cls := "EchoPensModel", name := "raise", desc := "(III)I" } : Jvm.MethodName)) ∈ lw_all := lw_g (lw_at lw_m6 120 rfl) rfl
theorem q1410 : (Jvm.Cond.methodLink "EchoPensLaw" (68 : Nat) ({ cls := "EchoPensModel", name := "clip", desc := "(I)I" } : Jvm.MethodName)) ∈ lw_all := lw_g (lw_at lw_m6 126 rfl) rfl
theorem q1426 : (Jvm.Cond.methodLink "EchoPensLaw" (72 : Nat) ({ cls := "EchoPensModel", name := "teach", desc := "(II)I" } : Jvm.MethodName)) ∈ lw_all := lw_g (lw_at lw_m6 142 rfl) rfl
theorem q1430 : (Jvm.Cond.methodLink "EchoPensLaw" (76 : Nat) ({ cls := "EchoPensModel", name := "cross", desc := "(II)I" } : Jvm.MethodName)) ∈ lw_all := lw_g (lw_at lw_m6 146 rfl) rfl
theorem q1434 : (Jvm.Cond.methodLink "EchoPensLaw" (80 : Nat) ({ cls := "EchoPensModel", name := "go", desc := "(I)I" } : Jvm.MethodName)) ∈ lw_all := lw_g (lw_at lw_m6 150 rfl) rfl
theorem q1455 : (Jvm.Cond.methodLink "EchoPensLaw" (84 : Nat) ({ cls := "EchoPensModel", name := "ahead", desc := "(III)I" } : Jvm.MethodName)) ∈ lw_all := lw_g (lw_at lw_m6 171 rfl) rfl
theorem q1459 : (Jvm.Cond.methodLink "EchoPensLaw" (88 : Nat) ({ cls := "EchoPensModel", name := "when", desc := "(II)I" } : Jvm.MethodName)) ∈ lw_all := lw_g (lw_at lw_m6 175 rfl) rfl
theorem q1475 : (Jvm.Cond.methodLink "EchoPensLaw" (92 : Nat) ({ cls := "EchoPensModel", name := "heard", desc := "(II)I" } : Jvm.MethodName)) ∈ lw_all := lw_g (lw_at lw_m6 191 rfl) rfl
theorem q1491 : (Jvm.Cond.methodLink "EchoPensLaw" (96 : Nat) ({ cls := "EchoPensModel", name := "together", desc := "(I)I" } : Jvm.MethodName)) ∈ lw_all := lw_g (lw_at lw_m6 207 rfl) rfl
theorem q1495 : (Jvm.Cond.methodLink "EchoPensLaw" (100 : Nat) ({ cls := "EchoPensModel", name := "still", desc := "(I)I" } : Jvm.MethodName)) ∈ lw_all := lw_g (lw_at lw_m6 211 rfl) rfl
theorem q1499 : (Jvm.Cond.methodLink "EchoPensLaw" (104 : Nat) ({ cls := "EchoPensModel", name := "meets", desc := "(I)I" } : Jvm.MethodName)) ∈ lw_all := lw_g (lw_at lw_m6 215 rfl) rfl
theorem q1503 : (Jvm.Cond.methodLink "EchoPensLaw" (108 : Nat) ({ cls := "EchoPensModel", name := "sell", desc := "(II)I" } : Jvm.MethodName)) ∈ lw_all := lw_g (lw_at lw_m6 219 rfl) rfl
theorem q1507 : (Jvm.Cond.methodLink "EchoPensLaw" (112 : Nat) ({ cls := "EchoPensModel", name := "sale", desc := "(I)I" } : Jvm.MethodName)) ∈ lw_all := lw_g (lw_at lw_m6 223 rfl) rfl
theorem q1530 : (Jvm.Cond.methodLink "EchoPensLaw" (116 : Nat) ({ cls := "EchoPensModel", name := "best", desc := "(II)I" } : Jvm.MethodName)) ∈ lw_all := lw_g (lw_at lw_m7 6 rfl) rfl
theorem q1543 : (Jvm.Cond.methodLink "EchoPensLaw" (120 : Nat) ({ cls := "EchoPensModel", name := "near", desc := "(I)I" } : Jvm.MethodName)) ∈ lw_all := lw_g (lw_at lw_m7 19 rfl) rfl
theorem q1548 : (Jvm.Cond.methodLink "EchoPensLaw" (125 : Nat) ({ cls := "EchoPensModel", name := "keeps", desc := "(IIII)J" } : Jvm.MethodName)) ∈ lw_all := lw_g (lw_at lw_m7 24 rfl) rfl
theorem q1565 : (Jvm.Cond.methodLink "EchoPensLaw" (129 : Nat) ({ cls := "EchoPensModel", name := "mean", desc := "(IIII)J" } : Jvm.MethodName)) ∈ lw_all := lw_g (lw_at lw_m7 41 rfl) rfl
theorem q1569 : (Jvm.Cond.methodLink "EchoPensLaw" (133 : Nat) ({ cls := "EchoPensModel", name := "see", desc := "(III)I" } : Jvm.MethodName)) ∈ lw_all := lw_g (lw_at lw_m7 45 rfl) rfl
theorem q1574 : (Jvm.Cond.methodLink "EchoPensLaw" (137 : Nat) ({ cls := "EchoPensModel", name := "forget", desc := "(I)I" } : Jvm.MethodName)) ∈ lw_all := lw_g (lw_at lw_m7 50 rfl) rfl
theorem q1578 : (Jvm.Cond.methodLink "EchoPensLaw" (141 : Nat) ({ cls := "EchoPensModel", name := "fits", desc := "(I)I" } : Jvm.MethodName)) ∈ lw_all := lw_g (lw_at lw_m7 54 rfl) rfl
theorem q1586 : (Jvm.Cond.methodLink "EchoPensLaw" (145 : Nat) ({ cls := "EchoPensModel", name := "listen", desc := "(II)I" } : Jvm.MethodName)) ∈ lw_all := lw_g (lw_at lw_m7 62 rfl) rfl
theorem q1590 : (Jvm.Cond.methodLink "EchoPensLaw" (149 : Nat) ({ cls := "EchoPensModel", name := "drift", desc := "(III)I" } : Jvm.MethodName)) ∈ lw_all := lw_g (lw_at lw_m7 66 rfl) rfl
theorem q1599 : (Jvm.Cond.methodLink "EchoPensLaw" (153 : Nat) ({ cls := "EchoPensModel", name := "keep", desc := "(I)I" } : Jvm.MethodName)) ∈ lw_all := lw_g (lw_at lw_m7 75 rfl) rfl
theorem q1607 : (Jvm.Cond.methodLink "EchoPensLaw" (157 : Nat) ({ cls := "EchoPensModel", name := "back", desc := "(I)I" } : Jvm.MethodName)) ∈ lw_all := lw_g (lw_at lw_m7 83 rfl) rfl
theorem q1611 : (Jvm.Cond.methodLink "EchoPensLaw" (161 : Nat) ({ cls := "EchoPensModel", name := "sheet", desc := "(III)I" } : Jvm.MethodName)) ∈ lw_all := lw_g (lw_at lw_m7 87 rfl) rfl
theorem q1618 : (Jvm.Cond.methodLink "EchoPensLaw" (165 : Nat) ({ cls := "EchoPensModel", name := "lay", desc := "(III)I" } : Jvm.MethodName)) ∈ lw_all := lw_g (lw_at lw_m7 94 rfl) rfl
theorem q1622 : (Jvm.Cond.methodLink "EchoPensLaw" (170 : Nat) ({ cls := "EchoPensModel", name := "read", desc := "(IIII)I" } : Jvm.MethodName)) ∈ lw_all := lw_g (lw_at lw_m7 98 rfl) rfl
theorem q1628 : (Jvm.Cond.methodLink "EchoPensLaw" (174 : Nat) ({ cls := "EchoPensModel", name := "torn", desc := "()I" } : Jvm.MethodName)) ∈ lw_all := lw_g (lw_at lw_m7 104 rfl) rfl
theorem q1632 : (Jvm.Cond.methodLink "EchoPensLaw" (178 : Nat) ({ cls := "EchoPensModel", name := "count", desc := "(I)I" } : Jvm.MethodName)) ∈ lw_all := lw_g (lw_at lw_m7 108 rfl) rfl
/-! java/lang/Math -/
set_option maxRecDepth 100000
def RJ7 : String := "java/lang/Math"
abbrev cJ7_max : ByteArray := prog_20_method_65_code
def yJ7_max : MethodName := ⟨RJ7, "max", "(II)I"⟩
def dkwJ7_max_0 : List UInt8 := [26, 27, 161, 0, 7, 26, 167, 0, 4, 27, 172]
abbrev dktJ7_max_0 : List UInt8 := dkwJ7_max_0 ++ []
theorem dksJ7_max_0 : cJ7_max.data.toList.drop 0 = dktJ7_max_0 := by decide +kernel
theorem dJ7_max_0 : decode cJ7_max 0 = .ok (.iload_n 0, 1) := dk_26 (dk_at dksJ7_max_0 0 rfl rfl)
theorem dJ7_max_1 : decode cJ7_max 1 = .ok (.iload_n 1, 1) := dk_27 (dk_at dksJ7_max_0 1 rfl rfl)
theorem dJ7_max_2 : decode cJ7_max 2 = .ok (.if_icmp .lt 7, 3) := dk_161 0 7 (dk_at dksJ7_max_0 2 rfl rfl)
theorem dJ7_max_5 : decode cJ7_max 5 = .ok (.iload_n 0, 1) := dk_26 (dk_at dksJ7_max_0 5 rfl rfl)
theorem dJ7_max_6 : decode cJ7_max 6 = .ok (.goto 4, 3) := dk_167 0 4 (dk_at dksJ7_max_0 6 rfl rfl)
theorem dJ7_max_9 : decode cJ7_max 9 = .ok (.iload_n 1, 1) := dk_27 (dk_at dksJ7_max_0 9 rfl rfl)
theorem dJ7_max_10 : decode cJ7_max 10 = .ok (.ireturn, 1) := dk_172 (dk_at dksJ7_max_0 10 rfl rfl)
abbrev cJ7_min : ByteArray := prog_20_method_69_code
def yJ7_min : MethodName := ⟨RJ7, "min", "(II)I"⟩
def dkwJ7_min_0 : List UInt8 := [26, 27, 163, 0, 7, 26, 167, 0, 4, 27, 172]
abbrev dktJ7_min_0 : List UInt8 := dkwJ7_min_0 ++ []
theorem dksJ7_min_0 : cJ7_min.data.toList.drop 0 = dktJ7_min_0 := by decide +kernel
theorem dJ7_min_0 : decode cJ7_min 0 = .ok (.iload_n 0, 1) := dk_26 (dk_at dksJ7_min_0 0 rfl rfl)
theorem dJ7_min_1 : decode cJ7_min 1 = .ok (.iload_n 1, 1) := dk_27 (dk_at dksJ7_min_0 1 rfl rfl)
theorem dJ7_min_2 : decode cJ7_min 2 = .ok (.if_icmp .gt 7, 3) := dk_163 0 7 (dk_at dksJ7_min_0 2 rfl rfl)
theorem dJ7_min_5 : decode cJ7_min 5 = .ok (.iload_n 0, 1) := dk_26 (dk_at dksJ7_min_0 5 rfl rfl)
theorem dJ7_min_6 : decode cJ7_min 6 = .ok (.goto 4, 3) := dk_167 0 4 (dk_at dksJ7_min_0 6 rfl rfl)
theorem dJ7_min_9 : decode cJ7_min 9 = .ok (.iload_n 1, 1) := dk_27 (dk_at dksJ7_min_0 9 rfl rfl)
theorem dJ7_min_10 : decode cJ7_min 10 = .ok (.ireturn, 1) := dk_172 (dk_at dksJ7_min_0 10 rfl rfl)
theorem q100 : (Jvm.Cond.initialized "java/lang/Math") ∈ lw_all := lw_g (lw_at lw_m1 16 rfl) rfl
theorem q430 : (Jvm.Cond.static ({ cls := "java/lang/Math", name := "max", desc := "(II)I" } : Jvm.MethodName)) ∈ lw_all := lw_g (lw_at lw_m2 106 rfl) rfl
theorem q431 : (Jvm.Cond.code ({ cls := "java/lang/Math", name := "max", desc := "(II)I" } : Jvm.MethodName) prog_20_method_65_code (2 : Nat) (Option.some Jvm.ClassFile.FieldType.int)) ∈ lw_all := lw_g (lw_at lw_m2 107 rfl) rfl
theorem q458 : (Jvm.Cond.static ({ cls := "java/lang/Math", name := "min", desc := "(II)I" } : Jvm.MethodName)) ∈ lw_all := lw_g (lw_at lw_m2 134 rfl) rfl
theorem q459 : (Jvm.Cond.code ({ cls := "java/lang/Math", name := "min", desc := "(II)I" } : Jvm.MethodName) prog_20_method_69_code (2 : Nat) (Option.some Jvm.ClassFile.FieldType.int)) ∈ lw_all := lw_g (lw_at lw_m2 135 rfl) rfl
